/-! THE TWIN's READING: what stands first, chains, signs (2) -/
set_option maxRecDepth 100000
theorem up5 {F : Fm} {v : Int} : (∀ x, ¬ x = 115 → up F 115 v x = F x) ∧ up F 115 v 115 = v := ⟨fun x hx => by unfold up; rw [if_neg hx], by unfold up; rw [if_pos rfl]⟩
section sim3
variable (T : List (Int × Int × Int)) (G0 : mG) (st : Nat) (i k : Nat) (out : List Sp) (fr wt : List Fm) (F : Fm) (ta ts : Int)
def K1 (q : Nat × List Sp × Nat) (k' : Nat) (G' : mG) : Prop := ∃ F', (∀ x, ¬ x = 115 → F' x = F x) ∧ (¬ F' 115 = 0 ↔ ¬ q.1 = 0) ∧ PR T G0 st G' q.2.2 (out ++ encL st out.length q.2.1) false (F' :: fr) wt ta ts ∧ Kb T i k (out.length + wt.length + sgc (F :: fr)) k' q.2.2 q.2.1.length
variable {T G0 st i k out fr wt F ta ts} {d : Nat} {Q : mR → Prop} {f : Int → Int} {n : Int} {r : Nat} {G : mG}
theorem first_sim (hE : PEnv f n T G0 st) (IH : ∀ r', r = r' + 1 → CHs d Q f n T G0 st r') (hr : fr.length + r = 4) (p : PR T G0 st G i out true (F :: fr) wt ta ts) (hs : F 109 = 0 → ¬ tkd n T i = 45 ∧ ¬ tkd n T i = 33)
    (hw : out.length + wt.length + sgc (F :: fr) ≤ 2 * i) (hww : wt.length ≤ i) (hk : k ≤ 2 * i + 4) : Sim d Q G0 st (firstR f n T (innR f n T r) i) (K1 T G0 st i k out fr wt F ta ts) k G := by
  have h41 := hE.2.2.1
  have hi := p.bd.2.2.1
  refine Sim.turn1 hE p (by omega) (by omega) (fun G' hF => ?_)
  unfold firstR
  rcases hF with ⟨h1, p1⟩ | ⟨h1, h2⟩ | ⟨⟨h1, h2⟩, -⟩ | ⟨h1, h2⟩ | ⟨h1, h2⟩ | ⟨h1, p1⟩
  · have hb := p1.bd.2.2.1
    rw [if_neg (by omega), if_neg (by omega), if_neg (by omega)]
    by_cases c1 : tkd n T i = 48
    · rw [if_pos c1] at p1 ⊢
      exact Sim.ok ⟨_, up5.1, by rw [up5.2]; exact ⟨fun h => absurd rfl h, fun h => absurd rfl h⟩, by rw [enc_one (isJ_lo (by decide))]; exact p1, ⟨by dsimp only; omega, by dsimp only; omega, hb, by dsimp only [List.length_cons, List.length_nil]; omega⟩⟩
    · rw [if_neg c1] at p1 ⊢
      by_cases c2 : tkd n T i = 39
      · rw [if_pos c2] at p1
        rw [if_neg (by omega), if_pos c2]
        exact Sim.ok ⟨_, up5.1, by rw [up5.2]; exact ⟨fun h => absurd rfl h, fun h => absurd rfl h⟩, by rw [enc_one (isJ_lo (by decide))]; exact p1, ⟨by dsimp only; omega, by dsimp only; omega, hb, by dsimp only [List.length_cons, List.length_nil]; omega⟩⟩
      · rw [if_neg c2] at p1
        have hsc := hE.2.2.2.2.2.2.2.2 i (by omega)
        rw [if_pos (by omega)]
        exact Sim.ok ⟨_, up5.1, by rw [up5.2]; exact ⟨fun h => absurd rfl h, fun h => absurd rfl h⟩, by rw [enc_one (isJ_lo (by omega))]; exact p1, ⟨by dsimp only; omega, by dsimp only; omega, hb, by dsimp only [List.length_cons, List.length_nil]; omega⟩⟩
  · rw [if_neg (by omega), if_neg (by omega), if_pos h1]
    have hnm := hE.2.2.2.2.2.2.2.1 i h1
    rcases h2 with ⟨h2, p1⟩ | ⟨h2, hN⟩
    · rw [if_pos h2]
      have hfx : isJ (fixS (tvl f n T i)) = false := isJ_lo (by unfold fixS; repeat' (first | split | decide))
      exact Sim.ok ⟨_, up5.1, by rw [up5.2]; exact ⟨fun h => absurd rfl h, fun h => absurd rfl h⟩, by rw [enc_one hfx]; exact p1, ⟨by dsimp only; omega, by dsimp only; omega, p1.bd.2.2.1, by dsimp only [List.length_cons, List.length_nil]; omega⟩⟩
    · rw [if_neg h2]
      have hl1 : (out ++ [((10 : Int), (0 : Int))]).length = out.length + 1 := by simp
      rcases hN with ⟨h4, p1⟩ | ⟨h4, hcl⟩
      · rw [if_neg h4]
        refine Sim.ok ⟨up F 115 1, up5.1, by rw [up5.2]; exact ⟨fun _ => by dsimp only; decide, fun _ => by decide⟩, ?_, ⟨by dsimp only; omega, by dsimp only; omega, p1.bd.2.2.1, by dsimp only [List.length_cons, List.length_nil]; omega⟩⟩
        rw [show [((10 : Int), (0 : Int)), (11, tvl f n T i)] = [(10, 0)] ++ [(11, tvl f n T i)] from rfl, encL_app, enc_one (isJ_lo (by decide)), enc_one (isJ_lo (by decide)), ← List.append_assoc]
        exact p1
      · rw [if_pos h4]
        have s := Sim.args (K := K1 T G0 st i k out fr wt F ta ts) (k := k + 1) (need := 13) (cont := fun q => .inr (0, [(10, 0)] ++ cllS 13 (tvl f n T i) q.1 q.2.1, q.2.2)) hE IH hr hcl hnm rfl (by rw [hl1]; omega) (by omega) (by omega) (fun a k' G2 F2 g1 g2 p2 hb => Sim.ok ⟨F2, g1, by rw [g2]; exact ⟨fun h => absurd rfl h, fun h => absurd rfl h⟩, by rw [encL_app, enc_one (isJ_lo (by decide)), ← List.append_assoc]; rw [hl1] at p2; exact p2, by
          obtain ⟨b1, b2, b3, b4⟩ := hb
          rw [hl1] at b4
          refine ⟨by dsimp only; omega, by dsimp only; omega, b3, ?_⟩
          unfold cllS
          simp only [List.length_append, List.length_cons, List.length_nil]
          omega⟩) _ rfl
        rw [show i + 1 + 1 = i + 2 from rfl] at s
        cases ha : argsR n T (innR f n T r) (i + 2) with
        | inl e => rw [ha] at s; exact s
        | inr a => rw [ha] at s; exact s
  · exact absurd h2 (by have := hs h1; omega)
  · rw [if_pos h1]
    have s := inn_sim (d := d) (Q := Q) (k := k + 1) (X := fun _ => True) IH hr (G := G') (F := F) (i := i + 1) (out := out) (how := 2) (wt := wt) (ta := ta) (ts := ts) (by
      rcases h2 with h2 | ⟨h2, F', e1, e2⟩
      · exact Or.inl h2
      · exact Or.inr ⟨h2, F', e1, trivial, e2⟩) (by omega) (by omega) (by omega)
    cases hq : innR f n T r (i + 1) with
    | inl e => exact Sim.bindE hq s
    | inr q =>
      refine Sim.bindR hq s (fun k2 G2 ⟨F', F2, e1, _, ⟨e2, _⟩, hat, b1, b2, b3, b4⟩ => ?_)
      refine Sim.turn hat.1 (by omega) (hat.2 _ (fun G3 p3 => tw_fin2 hE p3 (by rw [e2]; exact e1.1))) (fun G3 h3 => ?_)
      dsimp only
      rcases h3 with ⟨h3, hp⟩ | ⟨h3, p3⟩
      · rw [if_neg h3]; exact Sim.err hp
      · rw [if_pos h3]
        exact Sim.ok ⟨_, up5.1, by rw [up5.2]; exact ⟨fun h => absurd rfl h, fun h => absurd rfl h⟩, p3, ⟨by dsimp only; omega, by dsimp only; omega, p3.bd.2.2.1, by dsimp only; omega⟩⟩
  · rw [if_neg (by omega), if_pos h1]
    rcases h2 with ⟨h2, p1⟩ | ⟨h2, hp⟩
    · rw [if_pos h2]
      exact Sim.ok ⟨up F 115 1, up5.1, by rw [up5.2]; exact ⟨fun _ => by dsimp only; decide, fun _ => by decide⟩, by rw [enc_one (isJ_lo (by decide))]; exact p1, ⟨by dsimp only; omega, by dsimp only; omega, p1.bd.2.2.1, by dsimp only [List.length_cons, List.length_nil]; omega⟩⟩
    · rw [if_neg h2]; exact Sim.err hp
  · rw [if_neg (by omega), if_neg (by omega), if_neg (by omega), if_neg (by omega), if_neg (by omega), if_neg (by omega)]
    exact Sim.err p1
theorem chain_sim (hE : PEnv f n T G0 st) (IH : ∀ r', r = r' + 1 → CHs d Q f n T G0 st r') (hr : fr.length + r = 4) (h3 : F 113 = 0) (hwi : wt.length ≤ i) (hki : k ≤ 2 * i + 4) : ∀ (m sh : Nat) (sp : List Sp) (j k1 : Nat) (G : mG), T.length ≤ j + m → K1 T G0 st i k out fr wt F ta ts (sh, sp, j) k1 G →
    Sim d Q G0 st (chainL f n T (innR f n T r) m (sh, sp, j)) (fun q k' G' => K1 T G0 st i k out fr wt F ta ts q k' G' ∧ ¬ tkd n T q.2.2 = 46 ∧ ¬ tkd n T q.2.2 = 16174) k1 G := by
  have h41 := hE.2.2.1
  intro m
  induction m with
  | zero =>
    intro sh sp j k1 G hm hK
    obtain ⟨F', g1, g2, p, b1, b2, b3, b4⟩ := hK
    exfalso
    dsimp only at b3
    omega
  | succ m ih =>
    intro sh sp j k1 G hm hK
    have hK0 := hK
    obtain ⟨F', g1, g2, p, b1, b2, b3, b4⟩ := hK
    dsimp only at g2 p b1 b2 b3 b4
    rw [chainL]
    dsimp only
    by_cases hs : tkd n T j = 46 ∨ tkd n T j = 16174
    · rw [if_pos hs]
      have hl : (out ++ encL st out.length sp).length = out.length + sp.length := by rw [List.length_append, encL_len]
      have hsg : sgc (F' :: fr) = sgc (F :: fr) := by rw [sgc, sgc, g1 109 (by decide)]
      refine Sim.turn (p.lf hE) (by omega) (tw_behS hE p (by rw [g1 113 (by decide)]; exact h3) hs (by rw [hl]; omega)) (fun G' hp => ?_)
      rcases hp with ⟨h97, hp⟩ | ⟨h97, hN⟩
      · rw [if_neg h97]; exact Sim.err hp
      · rw [if_pos h97]
        have hnm := hE.2.2.2.2.2.2.2.1 (j + 1) h97
        rcases hN with ⟨h4, p1⟩ | ⟨h4, hcl⟩
        · rw [if_neg h4]
          have hb := p1.bd.2.2.1
          refine ih 2 _ (j + 2) (k1 + 1) G' (by omega) ⟨up F' 115 1, fun x hx => (up5.1 x hx).trans (g1 x hx), by rw [up5.2]; exact ⟨fun _ => by dsimp only; decide, fun _ => by decide⟩, ?_, ⟨by dsimp only; omega, by dsimp only; omega, hb, by dsimp only; rw [List.length_append, List.length_cons, List.length_nil]; omega⟩⟩
          dsimp only
          rw [encL_app, enc_one (isJ_lo (by split <;> decide)), ← List.append_assoc]
          by_cases h16 : tkd n T j = 16174
          · rw [if_pos h16] at p1 ⊢; exact p1
          · rw [if_neg h16] at p1 ⊢; exact p1
        · rw [if_pos h4]
          have hnd : (if tkd n T j = 16174 then (14 : Int) else 13) = if (if tkd n T j = 16174 then (1 : Int) else 0) = 0 then 13 else 14 := by
            by_cases h16 : tkd n T j = 16174
            · rw [if_pos h16, if_pos h16]; rfl
            · rw [if_neg h16, if_neg h16]; rfl
          have s := Sim.args (K := fun q k' G' => K1 T G0 st i k out fr wt F ta ts q k' G' ∧ ¬ tkd n T q.2.2 = 46 ∧ ¬ tkd n T q.2.2 = 16174) (k := k1 + 1) (cont := fun a => chainL f n T (innR f n T r) m (0, sp ++ cllS (if tkd n T j = 16174 then 14 else 13) (tvl f n T (j + 1)) a.1 a.2.1, a.2.2)) hE IH hr hcl hnm hnd (by rw [hl, hsg]; omega) (by omega) (by omega) (fun a k' G2 F2 e1 e2 p2 hb => by
            obtain ⟨c1, c2, c3, c4⟩ := hb
            rw [hl, hsg] at c4
            refine ih 0 _ a.2.2 k' G2 (by omega) ⟨F2, fun x hx => (e1 x hx).trans (g1 x hx), by rw [e2]; exact ⟨fun h => absurd rfl h, fun h => absurd rfl h⟩, ?_, ⟨by dsimp only; omega, by dsimp only; omega, c3, ?_⟩⟩
            · dsimp only
              rw [encL_app, ← List.append_assoc]
              rw [hl] at p2
              exact p2
            · dsimp only
              unfold cllS
              simp only [List.length_append, List.length_cons, List.length_nil]
              omega) _ rfl
          rw [show j + 2 + 1 = j + 3 from rfl] at s
          cases ha : argsR n T (innR f n T r) (j + 3) with
          | inl e => rw [ha] at s; exact s
          | inr a => rw [ha] at s; exact s
    · rw [if_neg hs]
      exact Sim.ok ⟨hK0, fun h => hs (Or.inl h), fun h => hs (Or.inr h)⟩
/-- behind a chain, its sign is written -/
theorem sign_sim (hE : PEnv f n T G0 st) (IH : ∀ r', r = r' + 1 → CHs d Q f n T G0 st r') (hr : fr.length + r = 4) (p : PR T G0 st G i out true (F :: fr) wt ta ts) (h9 : F 109 = 0) (h3 : F 113 = 0)
    (hw : out.length + wt.length + sgc fr ≤ 2 * i) (hww : wt.length ≤ i) (hk : k ≤ 2 * i + 4) : Sim d Q G0 st (signR f n T (innR f n T r) i) (fun q k' G' => ∃ F', (∀ x, ¬ x = 109 → ¬ x = 114 → ¬ x = 115 → F' x = F x) ∧ F' 109 = 0 ∧ ((¬ F' 114 = 0 ∧ ¬ F' 115 = 0) ↔ (¬ F 114 = 0 ∧ ¬ q.1 = 0)) ∧ At57 d T G0 st G' q.2.2 (out ++ encL st out.length q.2.1) F' fr wt ta ts ∧ Kb T i k (out.length + wt.length + sgc fr) k' q.2.2 q.2.1.length) k G := by
  have h41 := hE.2.2.1
  have hi := p.bd.2.2.1
  have hsg : sgc (F :: fr) = sgc fr := by rw [sgc, if_pos h9]; omega
  unfold signR
  by_cases hs : tkd n T i = 45 ∨ tkd n T i = 33
  · rw [if_pos hs]
    refine Sim.turn1 hE p (by omega) (by omega) (fun G1 hF => ?_)
    rcases hF with ⟨h1, p1⟩ | ⟨h1, h2⟩ | ⟨-, p1⟩ | ⟨h1, h2⟩ | ⟨h1, h2⟩ | ⟨h1, p1⟩
    · exfalso; omega
    · exfalso; omega
    · generalize hF1 : up (up F 109 (if tkd n T i = 45 then 30 else 31)) 114 0 = F1 at p1
      have f9 : F1 109 = if tkd n T i = 45 then 30 else 31 := by rw [← hF1]; rfl
      have f9r : F1 109 = 30 ∨ F1 109 = 31 := by rw [f9]; split <;> omega
      have f3 : F1 113 = 0 := by rw [← hF1]; exact h3
      have f4 : F1 114 = 0 := by rw [← hF1]; rfl
      have fx : ∀ x, ¬ x = 109 → ¬ x = 114 → F1 x = F x := fun x e1 e2 => by rw [← hF1]; unfold up; rw [if_neg e2, if_neg e1]
      have hsg1 : sgc (F1 :: fr) = sgc fr + 1 := by rw [sgc, if_neg (by omega)]; omega
      have hi1 := p1.bd.2.2.1
      have s1 := first_sim (k := k + 1) hE IH hr p1 (fun h => by omega) (by rw [hsg1]; omega) (by omega) (by omega)
      unfold chainR
      cases hq : firstR f n T (innR f n T r) (i + 1) with
      | inl e => exact Sim.bindE hq s1
      | inr q =>
        obtain ⟨sh, sp, j⟩ := q
        refine Sim.bindR hq s1 (fun k2 G2 hK => ?_)
        have s2 := chain_sim hE IH hr f3 (by omega) (by omega) 42 sh sp j k2 G2 (by omega) hK
        dsimp only
        cases hq2 : chainL f n T (innR f n T r) 42 (sh, sp, j) with
        | inl e => exact Sim.bindE hq2 s2
        | inr q2 =>
          obtain ⟨sh2, sp2, j2⟩ := q2
          refine Sim.bindR hq2 s2 (fun k3 G3 ⟨⟨F2, g1, g2, p2, b1, b2, b3, b4⟩, n1, n2⟩ => ?_)
          dsimp only at g2 p2 b1 b2 b3 b4 n1 n2 ⊢
          have hl : (out ++ encL st out.length sp2).length = out.length + sp2.length := by rw [List.length_append, encL_len]
          have g9 : F2 109 = F1 109 := g1 109 (by decide)
          refine Sim.ok ⟨up F2 109 0, fun x e1 e2 e3 => ?_, rfl, ?_, ⟨p2.lf hE, fun R hR => tw_beh0 hE p2 (by rw [g1 113 (by decide)]; exact f3) ⟨n1, n2⟩ (by rw [hl]; omega) (by omega) (fun G4 p4 => hR G4 ?_)⟩, ⟨by dsimp only; omega, by dsimp only; omega, b3, by dsimp only; rw [List.length_append, List.length_cons, List.length_nil]; omega⟩⟩
          · unfold up; rw [if_neg e1, g1 x e3, fx x e1 e2]
          · dsimp only
            have : up F2 109 0 114 = F1 114 := g1 114 (by decide)
            rw [this, f4]
            exact ⟨fun h => absurd rfl h.1, fun h => absurd rfl h.2⟩
          · unfold sgo at p4
            rw [if_neg (by omega), g9, f9] at p4
            rw [encL_app, enc_one (by split <;> rfl), ← List.append_assoc]
            by_cases h33 : tkd n T i = 33
            · rw [if_pos h33]; rw [if_neg (by omega)] at p4; exact p4
            · rw [if_neg h33]; rw [if_pos (by omega)] at p4; exact p4
    · exfalso; omega
    · exfalso; omega
    · exfalso; omega
  · rw [if_neg hs]
    have s1 := first_sim (k := k) hE IH hr p (fun _ => by omega) (by rw [hsg]; omega) hww hk
    unfold chainR
    cases hq : firstR f n T (innR f n T r) i with
    | inl e => exact Sim.bindE hq s1
    | inr q =>
      obtain ⟨sh, sp, j⟩ := q
      refine Sim.bindR hq s1 (fun k2 G2 hK => ?_)
      have s2 := chain_sim hE IH hr h3 hww hk 42 sh sp j k2 G2 (by omega) hK
      dsimp only
      cases hq2 : chainL f n T (innR f n T r) 42 (sh, sp, j) with
      | inl e => exact Sim.bindE hq2 s2
      | inr q2 =>
        obtain ⟨sh2, sp2, j2⟩ := q2
        refine Sim.bindR hq2 s2 (fun k3 G3 ⟨⟨F2, g1, g2, p2, b1, b2, b3, b4⟩, n1, n2⟩ => ?_)
        dsimp only at g2 p2 b1 b2 b3 b4 n1 n2 ⊢
        have hl : (out ++ encL st out.length sp2).length = out.length + sp2.length := by rw [List.length_append, encL_len]
        have g9 : F2 109 = 0 := (g1 109 (by decide)).trans h9
        refine Sim.ok ⟨up F2 109 0, fun x e1 e2 e3 => ?_, rfl, ?_, ⟨p2.lf hE, fun R hR => tw_beh0 hE p2 (by rw [g1 113 (by decide)]; exact h3) ⟨n1, n2⟩ (by rw [hl]; omega) (by omega) (fun G4 p4 => hR G4 ?_)⟩, ⟨b1, b2, b3, by dsimp only; omega⟩⟩
        · unfold up; rw [if_neg e1, g1 x e3]
        · dsimp only
          have e1 : up F2 109 0 114 = F 114 := g1 114 (by decide)
          have e2 : up F2 109 0 115 = F2 115 := rfl
          rw [e1, e2, g2]
        · unfold sgo at p4
          rw [if_pos g9] at p4
          exact p4
end sim3

