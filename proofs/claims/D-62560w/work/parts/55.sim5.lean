/-! THE TWIN's READING: operations (2) -/
set_option maxRecDepth 100000
theorem RelW.lev {st b : Nat} : ∀ {own : List Fm} {ws : List Wtg}, RelW st b own ws → ∀ w, w ∈ ws → 1 ≤ w.1
  | [], [], _ => fun w h => absurd h List.not_mem_nil
  | W :: own, w :: ws, h => fun v hv => by
    cases hv with
    | head => exact h.1.2.2.2.1
    | tail _ hv => exact RelW.lev h.2 v hv
  | [], _ :: _, h => h.elim
  | _ :: _, [], h => h.elim
theorem redu0 : ∀ {ws : List Wtg} {r : List Sp}, (∀ w, w ∈ ws → 1 ≤ w.1) → (redu 0 ws r).1 = []
  | [], _, _ => rfl
  | w :: ws, r, h => by
    rw [redu, if_pos (Or.inl (by have := h w (List.mem_cons_self ..); omega))]
    exact redu0 (fun v hv => h v (List.mem_cons_of_mem _ hv))
theorem ltO_nil {st : Nat} {out r : List Sp} : ltO st out [] r = out ++ encL st out.length r := by
  unfold ltO catO
  rw [List.append_nil, List.length_nil, Nat.add_zero]
section sim5
variable (d : Nat) (T : List (Int × Int × Int)) (n : Int) (G0 : mG) (st : Nat) (i k : Nat) (out : List Sp) (fr wt : List Fm) (F : Fm) (ta ts : Int)
def opOK (ws : List Wtg) : Prop := ∀ w, w ∈ ws → w.1 > 2 → 15 ≤ w.2.1 ∧ w.2.1 ≤ 31
/-- behind what || && and so on join -/
def KE (q : Nat × List Sp × Nat) (k' : Nat) (G' : mG) : Prop := ∃ F', (∀ x, ¬ x = 109 → ¬ x = 114 → ¬ x = 115 → F' x = F x) ∧ F' 109 = 0 ∧ ((¬ F' 114 = 0 ∧ ¬ F' 115 = 0) ↔ ¬ q.1 = 0) ∧ Kb T i k (out.length + wt.length + sgc fr) k' q.2.2 q.2.1.length ∧
  (lvlK (tkd n T q.2.2) = 0 ∧ (∃ own ws r0, RelW st out.length own ws ∧ opOK ws ∧ q.2.1 = (redu 0 ws r0).2 ∧ (ltO st out ws r0).length + own.length + wt.length + sgc fr ≤ 2 * q.2.2 ∧ At57 d T G0 st G' q.2.2 (ltO st out ws r0) F' fr (own ++ wt) ta ts)
   ∨ lvlK (tkd n T q.2.2) = 3 ∧ At12 d T G0 st G' q.2.2 (out ++ encL st out.length q.2.1) F' fr wt ta ts)
variable {d T n G0 st i k out fr wt F ta ts} {f : Int → Int} {Q : mR → Prop} {r : Nat} {G : mG}
theorem fin_at (hE : PEnv f n T G0 st) {own : List Fm} {ws : List Wtg} {r0 : List Sp} {j : Nat} {F' : Fm} (hR : RelW st out.length own ws) (hop : opOK ws) (hb : F' 108 = wt.length) (hl : (ltO st out ws r0).length + own.length ≤ 88) (h0 : lvlK (tkd n T j) = 0) (ha : ¬ tkd n T j = 63 ∧ ¬ tkd n T j = 16186) (hat : At57 d T G0 st G j (ltO st out ws r0) F' fr (own ++ wt) ta ts) : At12 d T G0 st G j (out ++ encL st out.length (redu 0 ws r0).2) F' fr wt ta ts := by
  refine ⟨hat.1, fun R hR2 => hat.2 R (fun G1 p1 => tw_behF hE p1 h0 ha (tw_fin_r (d := d + 1) hE p1 hb (hR.ok (by rw [ltO_len]; omega)) (by omega) (fun G2 p2 _ => hR2 G2 ?_)))⟩
  obtain ⟨e1, e2, e3⟩ := redF_redu (st := st) (out := out) (lv := 0) (lv' := 1) (fun l h1 h2 => by omega) own ws r0 hR hop
  rw [e1, redu0 hR.lev, ltO_nil] at p2
  exact p2
theorem fin_at3 (hE : PEnv f n T G0 st) {own : List Fm} {ws : List Wtg} {r0 : List Sp} {j : Nat} {F' : Fm} (hR : RelW st out.length own ws) (hop : opOK ws) (hb : F' 108 = wt.length) (hl : (ltO st out ws r0).length + own.length ≤ 88) (h0 : lvlK (tkd n T j) = 3) (h3 : top3 (redu 3 ws r0).1 = true) (hat : At57 d T G0 st G j (ltO st out ws r0) F' fr (own ++ wt) ta ts) : At12 d T G0 st G j (out ++ encL st out.length (redu 0 (redu 3 ws r0).1 (redu 3 ws r0).2).2) F' fr wt ta ts := by
  obtain ⟨e1, e2, e3⟩ := redF_redu (st := st) (out := out) (lv := 3) (lv' := 4) (fun l h1 h2 => by omega) own ws r0 hR hop
  have hlen := redF_len (st := st) (lv := 4) (own := own) (o := ltO st out ws r0)
  refine ⟨hat.1, fun R hR2 => hat.2 R (fun G1 p1 => tw_behG hE p1 hb (hR.ok (by rw [ltO_len]; omega)) (by omega) h0 (by rw [e2.top]; exact h3) (fun G2 p2 => ?_))⟩
  generalize hown : (redF st 4 own (ltO st out ws r0)).1 = own2 at *
  rw [e1] at p2 hlen
  refine tw_fin_r (d := d + 1) hE p2 hb (e2.ok (by rw [ltO_len]; omega)) (by omega) (fun G3 p3 _ => hR2 G3 ?_)
  obtain ⟨g1, g2, g3⟩ := redF_redu (st := st) (out := out) (lv := 0) (lv' := 1) (fun l h1 h2 => by omega) own2 _ (redu 3 ws r0).2 e2 (fun w hw => hop w (e3 w hw))
  rw [g1, redu0 e2.lev, ltO_nil] at p3
  exact p3
theorem eith_sim (hE : PEnv f n T G0 st) (IH : ∀ r', r = r' + 1 → CHs d Q f n T G0 st r') (hr : fr.length + r = 4) (h3 : F 113 = 0) (h8 : F 108 = wt.length) (h4 : ¬ F 114 = 0) (hww : wt.length ≤ i) (hk : k ≤ 2 * i + 4) :
    ∀ (m : Nat) (ws : List Wtg) (own : List Fm) (sh : Nat) (r0 : List Sp) (j k1 : Nat) (G : mG) (F' : Fm), T.length ≤ j + m → RelW st out.length own ws → opOK ws → (∀ x, ¬ x = 109 → ¬ x = 114 → ¬ x = 115 → F' x = F x) → F' 109 = 0 → ((¬ F' 114 = 0 ∧ ¬ F' 115 = 0) ↔ (ws = [] ∧ ¬ sh = 0)) →
      (k1 + 2 * i ≤ k + 2 * j ∧ i < j ∧ j < T.length ∧ (ltO st out ws r0).length + own.length + wt.length + sgc fr ≤ 2 * j ∧ own.length + wt.length ≤ j) → At57 d T G0 st G j (ltO st out ws r0) F' fr (own ++ wt) ta ts →
      Sim d Q G0 st (eithL f n T (innR f n T r) m ws (sh, r0, j)) (KE d T n G0 st i k out fr wt F ta ts) k1 G := by
  have h41 := hE.2.2.1
  intro m
  induction m with
  | zero => intro ws own sh r0 j k1 G F' hm _ _ _ _ _ hb _; exfalso; omega
  | succ m ih =>
    intro ws own sh r0 j k1 G F' hm hR hop g1 g9 g2 hb hat
    obtain ⟨b1, b2, b3, b4, b5⟩ := hb
    have hb8 : F' 108 = wt.length := (g1 108 (by decide) (by decide) (by decide)).trans h8
    rw [eithL]
    dsimp only
    generalize hlv : lvlK (tkd n T j) = lv
    have hlr := lvlK_lo (tkd n T j)
    rw [hlv] at hlr
    by_cases hend : lv = 0 ∨ lv = 3 ∧ top3 (redu lv ws r0).1 = true
    · rw [if_pos hend]
      have hsh : (¬ F' 114 = 0 ∧ ¬ F' 115 = 0) ↔ ¬ (if ws = [] then sh else 0) = 0 := by
        rw [g2]
        by_cases hws : ws = []
        · rw [if_pos hws]; exact ⟨fun h => h.2, fun h => ⟨hws, h⟩⟩
        · rw [if_neg hws]; exact ⟨fun h => absurd h.1 hws, fun h => absurd rfl h⟩
      obtain ⟨e1, e2, e3⟩ := redF_redu (st := st) (out := out) (lv := 0) (lv' := 1) (fun l h1 h2 => by omega) own ws r0 hR hop
      rcases hend with h0 | ⟨h0, ht⟩
      · subst h0
        have hx : redu 0 (redu 0 ws r0).1 (redu 0 ws r0).2 = redu 0 ws r0 := by
          have := redu0 (r := r0) hR.lev
          rw [this, redu]
          exact Prod.ext this.symm rfl
        have hlen := redF_len (st := st) (lv := 1) (own := own) (o := ltO st out ws r0)
        rw [e1, redF_all (hR.ok (m := (ltO st out ws r0).length) (by rw [ltO_len]; omega)), redu0 hR.lev, ltO_nil, List.length_append, encL_len] at hlen
        rw [hx]
        exact Sim.ok ⟨F', g1, g9, hsh, ⟨b1, b2, b3, by dsimp only; simp only [List.length_nil] at hlen; omega⟩, Or.inl ⟨hlv, own, ws, r0, hR, hop, rfl, b4, hat⟩⟩
      · subst h0
        have ha := fin_at3 hE hR hop hb8 (by omega) hlv ht hat
        obtain ⟨c1, c2, c3⟩ := redF_redu (st := st) (out := out) (lv := 3) (lv' := 4) (fun l h1 h2 => by omega) own ws r0 hR hop
        have hlen := redF_len (st := st) (lv := 4) (own := own) (o := ltO st out ws r0)
        obtain ⟨q1, q2, q3⟩ := redF_redu (st := st) (out := out) (lv := 0) (lv' := 1) (fun l h1 h2 => by omega) _ _ (redu 3 ws r0).2 c2 (fun w hw => hop w (c3 w hw))
        have hlen2 := redF_len (st := st) (lv := 1) (own := (redF st 4 own (ltO st out ws r0)).1) (o := ltO st out (redu 3 ws r0).1 (redu 3 ws r0).2)
        rw [q1, redu0 c2.lev, ltO_nil, List.length_append, encL_len, redF_all (c2.ok (m := (ltO st out (redu 3 ws r0).1 (redu 3 ws r0).2).length) (by rw [ltO_len]; omega))] at hlen2
        rw [c1] at hlen
        exact Sim.ok ⟨F', g1, g9, hsh, ⟨b1, b2, b3, by dsimp only; simp only [List.length_nil] at hlen2; omega⟩, Or.inr ⟨hlv, ha⟩⟩
    · rw [if_neg hend]
      have hl0 : lv > 0 := by omega
      obtain ⟨e1, e2, e3⟩ := redF_redu (st := st) (out := out) (lv := lv) (lv' := if lv = 3 then 4 else lv) (fun l h1 h2 => by split <;> omega) own ws r0 hR hop
      have hlen := redF_len (st := st) (lv := if lv = 3 then 4 else lv) (own := own) (o := ltO st out ws r0)
      have hle := redF_le (st := st) (lv := if lv = 3 then 4 else lv) (own := own) (o := ltO st out ws r0)
      refine Sim.turn hat.1 (by omega) (hat.2 _ (fun G1 p1 => tw_behB hE p1 hb8 (hR.ok (by rw [ltO_len]; omega)) (by omega) (by omega) hlv.symm hl0 rfl (fun hh => hend (Or.inr ⟨hh.1, by rw [← e2.top]; exact hh.2⟩)))) (fun G2 h2 => ?_)
      obtain ⟨W, w1, w2, w3, p2⟩ := h2
      generalize (redF st (if lv = 3 then 4 else lv) own (ltO st out ws r0)).1 = own2 at *
      rw [e1] at p2 w3 hlen
      generalize hws2 : (redu lv ws r0).1 = ws2 at *
      generalize hr2 : (redu lv ws r0).2 = r2 at *
      have hcat : (if lv > 2 then ltO st out ws2 r2 else ltO st out ws2 r2 ++ [(if lv = 2 then 32 else 33, 0)]) = out ++ catO st out.length ((lv, opS (tkd n T j), r2) :: ws2) := by
        unfold ltO
        rw [catO]
        dsimp only
        by_cases h2 : lv > 2
        · rw [if_pos h2, if_neg (by omega), List.append_nil, List.append_assoc]
        · rw [if_neg h2, if_pos (show lv ≤ 2 by omega)]
          simp only [List.append_assoc]
      rw [hcat] at p2
      have hRn : RelW st out.length (W :: own2) ((lv, opS (tkd n T j), r2) :: ws2) := by
        refine ⟨⟨w1, fun h => by rw [w2, if_pos h], fun h => ?_, by dsimp only; omega, by dsimp only; omega, ?_⟩, e2⟩
        · rw [w3 h, ltO_len]
          dsimp only
          omega
        · rw [w2]
          have := opS_rng (tkd n T j)
          split <;> omega
      have hopn : opOK ((lv, opS (tkd n T j), r2) :: ws2) := fun w hw h => by
        cases hw with
        | head => have := opS_rng (tkd n T j); dsimp only; omega
        | tail _ hw => exact hop w (e3 w hw) h
      have hcl : (out ++ catO st out.length ((lv, opS (tkd n T j), r2) :: ws2)).length = (ltO st out ws2 r2).length + (if lv ≤ 2 then 1 else 0) := by
        rw [List.length_append, catO_cons, ltO_len]
        dsimp only
        omega
      have hcl2 : (if lv ≤ 2 then 1 else 0) ≤ 1 := by split <;> omega
      have hj := p2.bd.2.2.1
      have s := sign_sim (k := k1 + 1) hE IH hr p2 (show F' 109 = 0 from g9) (show F' 113 = 0 from (g1 113 (by decide) (by decide) (by decide)).trans h3) (by rw [hcl]; simp only [List.length_cons, List.length_append]; omega) (by simp only [List.length_cons, List.length_append]; omega) (by omega)
      cases hq : signR f n T (innR f n T r) (j + 1) with
      | inl e => exact Sim.bindE hq s
      | inr q =>
        obtain ⟨sh2, r3, j2⟩ := q
        refine Sim.bindR hq s (fun k2 G3 ⟨F2, f1, f2, f3, hat2, c1, c2, c3, c4⟩ => ?_)
        dsimp only at f3 hat2 c1 c2 c3 c4 ⊢
        rw [hcl] at c4
        simp only [List.length_cons, List.length_append] at c4
        refine ih _ (W :: own2) sh2 r3 j2 k2 G3 F2 (by omega) hRn hopn (fun x x1 x2 x3 => ?_) f2 ?_ ⟨by omega, by omega, c3, ?_, by simp only [List.length_cons]; omega⟩ ?_
        · rw [f1 x x1 x2 x3]
          unfold up
          rw [if_neg x2]
          exact g1 x x1 x2 x3
        · rw [f3]
          exact ⟨fun h => absurd rfl h.1, fun h => by cases h.1⟩
        · rw [ltO_len, catO_cons]
          rw [ltO_len] at c4
          simp only [List.length_cons]
          omega
        · unfold ltO
          rw [List.length_append] at hat2
          exact hat2
end sim5

