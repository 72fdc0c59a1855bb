/-! THE TWIN's READING: choices -/
set_option maxRecDepth 100000
theorem enc_j {st b : Nat} {s v : Int} (h : isJ s = true) : encL st b [(s, v)] = [(s, (st : Int) + b + 1 + v)] := by
  rw [encL, encL]
  unfold enc1
  dsimp only
  rw [h, if_pos rfl]
section sim6
variable {d : Nat} {T : List (Int × Int × Int)} {n : Int} {G0 : mG} {st : Nat} {i k : Nat} {out : List Sp} {fr wt : List Fm} {F : Fm} {ta ts : Int} {f : Int → Int} {Q : mR → Prop} {r : Nat} {G : mG}
theorem eithR_sim (hE : PEnv f n T G0 st) (IH : ∀ r', r = r' + 1 → CHs d Q f n T G0 st r') (h9 : F 109 = 0) (h3 : F 113 = 0) (h8 : F 108 = wt.length) (h4 : ¬ F 114 = 0) (p : PR T G0 st G i out true (F :: fr) wt ta ts) (hr : fr.length + r = 4) (hw : out.length + wt.length + sgc fr ≤ 2 * i) (hww : wt.length ≤ i) (hk : k ≤ 2 * i + 4) :
    Sim d Q G0 st (eithR f n T (innR f n T r) i) (KE d T n G0 st i k out fr wt F ta ts) k G := by
  have h41 := hE.2.2.1
  have s := sign_sim hE IH hr p h9 h3 hw hww hk
  unfold eithR
  cases hq : signR f n T (innR f n T r) i with
  | inl e => exact Sim.bindE hq s
  | inr q =>
    obtain ⟨sh, r0, j⟩ := q
    refine Sim.bindR hq s (fun k2 G2 ⟨F2, f1, f2, f3, hat, c1, c2, c3, c4⟩ => ?_)
    dsimp only at f3 hat c1 c2 c3 c4 ⊢
    refine eith_sim hE IH hr h3 h8 h4 hww hk 42 [] [] sh r0 j k2 G2 F2 (by omega) trivial (fun w hw => absurd hw List.not_mem_nil) f1 f2 ?_ ⟨c1, c2, c3, ?_, by simp only [List.length_nil]; omega⟩ ?_
    · rw [f3]
      exact ⟨fun h => ⟨rfl, h.2⟩, fun h => ⟨h4, h.2⟩⟩
    · rw [ltO_nil, List.length_append, encL_len]
      simp only [List.length_nil]
      omega
    · rw [ltO_nil]
      exact hat
/-- behind a closed choice it ends -/
theorem closed_at (hE : PEnv f n T G0 st) (p : PR T G0 st G i out false (F :: fr) wt ta ts) (h3 : F 113 = 1) (h8 : F 108 = wt.length) (hl : out.length ≤ 88) : At12 d T G0 st G i out F fr wt ta ts :=
  ⟨p.lf hE, fun R hR => tw_behC hE p h3 (tw_fin_r (d := d + 1) (own := []) (outer := wt) hE p h8 (fun W h => absurd h List.not_mem_nil) (by simp only [List.length_nil]; omega) (fun G2 p2 _ => hR G2 p2))⟩
/-- the part behind a question's : or ?: is read -/
theorem else_sim {F1 : Fm} {X : List Sp} {res : PRes} {K : Nat × List Sp × Nat → Nat → mG → Prop} {j k1 m : Nat} {sp : List Sp} {P : Fm} (hE : PEnv f n T G0 st) (hat : At12 d T G0 st G j (X ++ sp) F1 (P :: fr) wt ta ts) (h7 : F1 107 = 5) (h10 : F1 110 = (st : Int) + m) (hm : m < (X ++ sp).length) (h8 : P 108 = wt.length) (hl : (X ++ sp).length ≤ 88) (hk1 : k1 < 400)
    (hx : ∀ G', At12 d T G0 st G' j (ptc (X ++ sp) m ((st : Int) + (X ++ sp).length)) (up (up P 113 1) 114 0) fr wt ta ts → Sim d Q G0 st res K (k1 + 1) G') : Sim d Q G0 st res K k1 G := by
  refine Sim.turn hat.1 hk1 (hat.2 _ (fun G3 p3 => tw_fin5 hE p3 h7 h10 hm)) (fun G3 p3 => hx G3 (closed_at hE p3 rfl h8 (by rw [ptc_len]; exact hl)))
theorem choi_sim (hE : PEnv f n T G0 st) (IH : ∀ r', r = r' + 1 → CHs d Q f n T G0 st r') : CHs d Q f n T G0 st r := by
  intro k G i out F fr wt ta ts h9 h3 h8 h4 p hr hw hww hk
  have h41 := hE.2.2.1
  have s := eithR_sim hE IH h9 h3 h8 h4 p hr hw hww hk
  unfold choiR
  cases hq : eithR f n T (innR f n T r) i with
  | inl e => exact Sim.bindE hq s
  | inr q =>
    obtain ⟨sh, sp, j⟩ := q
    refine Sim.bindR hq s (fun k2 G2 ⟨F2, f1, f2, f3, ⟨c1, c2, c3, c4⟩, hend⟩ => ?_)
    dsimp only at f3 c1 c2 c3 c4 hend ⊢
    have g7 : F2 107 = F 107 := f1 107 (by decide) (by decide) (by decide)
    have g8 : F2 108 = wt.length := (f1 108 (by decide) (by decide) (by decide)).trans h8
    have g10 : F2 110 = F 110 := f1 110 (by decide) (by decide) (by decide)
    have g11 : F2 111 = F 111 := f1 111 (by decide) (by decide) (by decide)
    have g12 : F2 112 = F 112 := f1 112 (by decide) (by decide) (by decide)
    by_cases hask : tkd n T j = 63 ∨ tkd n T j = 16186
    · rcases hend with ⟨h0, own, ws, r0, hR, hop, hsp, hlen, hat⟩ | ⟨h0, -⟩
      · obtain ⟨e1, e2, e3⟩ := redF_redu (st := st) (out := out) (lv := 0) (lv' := 1) (fun l h1 h2 => by omega) own ws r0 hR hop
        rw [redu0 hR.lev, ltO_nil, ← hsp] at e1
        have hro : (out ++ encL st out.length sp).length = out.length + sp.length := by rw [List.length_append, encL_len]
        -- the question's turn
        have hopen : ∀ {res : PRes} {K : Nat × List Sp × Nat → Nat → mG → Prop}, (∀ G', (fr.length = 4 ∧ PE G0 st G' 3 (tpl n T (j + 1)) ∨ fr.length < 4 ∧ ∃ F', Frsh F' (if tkd n T j = 63 then 4 else 5) wt.length ∧ F' 110 = (st : Int) + (out ++ encL st out.length sp).length ∧ PR T G0 st G' (j + 1) (out ++ encL st out.length sp ++ [(if tkd n T j = 63 then 35 else 37, 0)]) true (F' :: up F2 114 0 :: fr) wt ta ts) → Sim d Q G0 st res K (k2 + 1) G') → Sim d Q G0 st res K k2 G2 := by
          intro res K hx
          refine Sim.turn hat.1 (by omega) (hat.2 _ (fun G3 p3 => tw_behA hE p3 g8 (hR.ok (by rw [ltO_len]; omega)) (by omega) hask)) (fun G3 h5 => hx G3 ?_)
          rw [e1] at h5
          exact h5
        have hsg : sgc (up F2 114 0 :: fr) = sgc fr := by
          rw [sgc, if_pos (show up F2 114 0 109 = 0 from f2)]
          omega
        have hl1 : ∀ c : Int, (out ++ encL st out.length sp ++ [(c, (0 : Int))]).length = out.length + sp.length + 1 := fun c => by rw [List.length_append, hro]; rfl
        by_cases h16 : tkd n T j = 16186
        · rw [if_pos h16]
          refine hopen (fun G3 h5 => ?_)
          rw [if_neg (by omega), if_neg (by omega)] at h5
          have hj1 : j + 1 < T.length ∨ fr.length = 4 := by
            rcases h5 with h5 | ⟨-, F', -, -, p5⟩
            · exact Or.inr h5.1
            · exact Or.inl p5.bd.2.2.1
          have s2 := inn_sim (d := d) (Q := Q) (k := k2 + 1) (X := fun F' => F' 110 = (st : Int) + (out ++ encL st out.length sp).length) IH hr h5 (by rw [hl1, hsg]; omega) (by omega) (by omega)
          cases hq2 : innR f n T r (j + 1) with
          | inl e => exact Sim.bindE hq2 s2
          | inr q2 =>
            obtain ⟨sh2, sp2, j2⟩ := q2
            refine Sim.bindR hq2 s2 (fun k3 G4 ⟨F', F3, x1, x2, ⟨y1, y2, y3, y4, y5⟩, hat2, b1, b2, b3, b4⟩ => ?_)
            dsimp only at y5 hat2 b1 b2 b3 b4 ⊢
            rw [hl1] at hat2 b4
            rw [hsg] at b4
            have hlo : (out ++ encL st out.length sp ++ [((37 : Int), (0 : Int))] ++ encL st (out.length + sp.length + 1) sp2).length = out.length + sp.length + 1 + sp2.length := by rw [List.length_append, hl1, encL_len]
            refine else_sim hE hat2 (y1.trans x1.1) (m := out.length + sp.length) (by rw [y2, x2, hro]) (by rw [hlo]; omega) g8 (by rw [hlo]; omega) (by omega) (fun G5 hat3 => Sim.ok ⟨up (up (up F2 114 0) 113 1) 114 0, ⟨g7, g10, g11, g12, ?_⟩, ?_, ⟨by dsimp only; omega, by dsimp only; omega, b3, ?_⟩⟩)
            · exact ⟨fun h => absurd rfl h.1, fun h => absurd rfl h⟩
            · dsimp only
              rw [hlo] at hat3
              rw [encL_app, encL_app, enc_j (s := 37) rfl, ← List.append_assoc, ← List.append_assoc]
              rw [show out ++ encL st out.length sp ++ [((37 : Int), (0 : Int))] ++ encL st (out.length + sp.length + 1) sp2 = (out ++ encL st out.length sp) ++ (37, 0) :: encL st (out.length + sp.length + 1) sp2 by simp only [List.append_assoc, List.singleton_append], show out.length + sp.length = (out ++ encL st out.length sp).length from hro.symm, ptc_at] at hat3
              rw [List.append_assoc, List.singleton_append]
              rw [List.length_append, List.length_cons, List.length_nil, ← Nat.add_assoc]
              rw [hro] at hat3
              rw [show (st : Int) + ((out.length + sp.length + 1 + sp2.length : Nat) : Int) = st + ((out.length + sp.length : Nat) : Int) + 1 + sp2.length by omega] at hat3
              exact hat3
            · dsimp only
              simp only [List.length_append, List.length_cons, List.length_nil]
              omega
        · have h63 : tkd n T j = 63 := by omega
          rw [if_neg h16, if_pos h63]
          refine hopen (fun G3 h5 => ?_)
          rw [if_pos h63, if_pos h63] at h5
          have hj1 : j + 1 < T.length ∨ fr.length = 4 := by
            rcases h5 with h5 | ⟨-, F', -, -, p5⟩
            · exact Or.inr h5.1
            · exact Or.inl p5.bd.2.2.1
          have s2 := inn_sim (d := d) (Q := Q) (k := k2 + 1) (X := fun F' => F' 110 = (st : Int) + (out ++ encL st out.length sp).length) IH hr h5 (by rw [hl1, hsg]; omega) (by omega) (by omega)
          cases hq2 : innR f n T r (j + 1) with
          | inl e => exact Sim.bindE hq2 s2
          | inr q2 =>
            obtain ⟨r', hr'⟩ : ∃ r', r = r' + 1 := by
              cases r with
              | zero => cases hq2
              | succ r' => exact ⟨r', rfl⟩
            subst hr'
            obtain ⟨sh2, sp2, j2⟩ := q2
            refine Sim.bindR hq2 s2 (fun k3 G4 ⟨F', F3, x1, x2, ⟨y1, y2, y3, y4, y5⟩, hat2, b1, b2, b3, b4⟩ => ?_)
            dsimp only at y5 hat2 b1 b2 b3 b4 ⊢
            rw [hl1] at hat2 b4
            rw [hsg] at b4
            have hlo : (out ++ encL st out.length sp ++ [((35 : Int), (0 : Int))] ++ encL st (out.length + sp.length + 1) sp2).length = out.length + sp.length + 1 + sp2.length := by rw [List.length_append, hl1, encL_len]
            refine Sim.turn hat2.1 (by omega) (hat2.2 _ (fun G5 p5 => tw_fin4 (k := out.length + sp.length) hE p5 (y1.trans x1.1) (by rw [y2, x2, hro]) (by rw [hlo]; omega) (by rw [hlo]; omega))) (fun G5 h6 => ?_)
            rcases h6 with ⟨h58, hp⟩ | ⟨h58, p5⟩
            · rw [if_neg h58]; exact Sim.err hp
            · rw [if_pos h58]
              have hA : (out ++ encL st out.length sp ++ ((35 : Int), (st : Int) + ((out.length + sp.length : Nat) : Int) + 1 + (sp2.length + 1)) :: encL st (out.length + sp.length + 1) sp2).length = out.length + sp.length + 1 + sp2.length := by
                rw [List.length_append, List.length_cons, hro, encL_len]; omega
              rw [hlo] at p5
              rw [show out ++ encL st out.length sp ++ [((35 : Int), (0 : Int))] ++ encL st (out.length + sp.length + 1) sp2 ++ [((36 : Int), (0 : Int))] = (out ++ encL st out.length sp) ++ (35, 0) :: (encL st (out.length + sp.length + 1) sp2 ++ [((36 : Int), (0 : Int))]) by simp only [List.append_assoc, List.singleton_append, List.cons_append, List.nil_append]] at p5
              have hpt := ptc_at (out ++ encL st out.length sp) 35 0 ((st : Int) + ((out.length + sp.length + 1 + sp2.length : Nat) : Int) + 1) (encL st (out.length + sp.length + 1) sp2 ++ [((36 : Int), (0 : Int))])
              rw [hro] at hpt
              rw [hpt, show (st : Int) + ((out.length + sp.length + 1 + sp2.length : Nat) : Int) + 1 = (st : Int) + ((out.length + sp.length : Nat) : Int) + 1 + (sp2.length + 1) by omega] at p5
              rw [show ∀ v : Int, (out ++ encL st out.length sp ++ (35, v) :: (encL st (out.length + sp.length + 1) sp2 ++ [((36 : Int), (0 : Int))])) = (out ++ encL st out.length sp ++ (35, v) :: encL st (out.length + sp.length + 1) sp2) ++ [((36 : Int), (0 : Int))] from fun v => by simp only [List.append_assoc, List.cons_append]] at p5
              generalize hAe : (out ++ encL st out.length sp ++ ((35 : Int), (st : Int) + ((out.length + sp.length : Nat) : Int) + 1 + (sp2.length + 1)) :: encL st (out.length + sp.length + 1) sp2) = A at p5 hA
              have hA1 : (A ++ [((36 : Int), (0 : Int))]).length = out.length + sp.length + 1 + sp2.length + 1 := by rw [List.length_append, hA]; rfl
              have hj2 := p5.bd.2.2.1
              have s3 := IH r' rfl (k3 + 1) G5 (j2 + 1) _ _ _ wt ta ts rfl rfl rfl (show ¬ (1 : Int) = 0 by decide) p5 (by simp only [List.length_cons]; omega) (by rw [hA1, hsg]; omega) (by omega) (by omega)
              show Sim d Q G0 st (match choiR f n T (innR f n T r') (j2 + 1) with | .inl e => _ | .inr z => _) _ _ _
              cases hq3 : choiR f n T (innR f n T r') (j2 + 1) with
              | inl e => exact Sim.bindE hq3 s3
              | inr q3 =>
                obtain ⟨sh3, sp3, j3⟩ := q3
                refine Sim.bindR hq3 s3 (fun k4 G6 ⟨F6, ⟨z1, z2, z3, z4, z5⟩, hat4, a1, a2, a3, a4⟩ => ?_)
                dsimp only at z5 hat4 a1 a2 a3 a4 ⊢
                rw [hA1] at hat4 a4
                rw [hsg] at a4
                have hlo4 : (A ++ [((36 : Int), (0 : Int))] ++ encL st (out.length + sp.length + 1 + sp2.length + 1) sp3).length = out.length + sp.length + 1 + sp2.length + 1 + sp3.length := by rw [List.length_append, hA1, encL_len]
                refine else_sim hE hat4 (z1.trans rfl) (m := out.length + sp.length + 1 + sp2.length) (z2.trans rfl) (by rw [hlo4]; omega) g8 (by rw [hlo4]; omega) (by omega) (fun G7 hat5 => Sim.ok ⟨up (up (up F2 114 0) 113 1) 114 0, ⟨g7, g10, g11, g12, ?_⟩, ?_, ⟨by dsimp only; omega, by dsimp only; omega, a3, ?_⟩⟩)
                · exact ⟨fun h => absurd rfl h.1, fun h => absurd rfl h⟩
                · dsimp only
                  rw [hlo4, List.append_assoc, List.singleton_append] at hat5
                  have hpt2 := ptc_at A 36 0 ((st : Int) + ((out.length + sp.length + 1 + sp2.length + 1 + sp3.length : Nat) : Int)) (encL st (out.length + sp.length + 1 + sp2.length + 1) sp3)
                  rw [hA] at hpt2
                  rw [hpt2, ← hAe] at hat5
                  rw [encL_app, encL_app, encL_app, encL_app, enc_j (s := 35) rfl, enc_j (s := 36) rfl]
                  simp only [List.length_append, List.length_cons, List.length_nil]
                  simp only [List.append_assoc, List.singleton_append, List.cons_append, List.nil_append] at hat5 ⊢
                  rw [show (st : Int) + ((out.length + sp.length + 1 + sp2.length + 1 + sp3.length : Nat) : Int) = (st : Int) + ((out.length + (sp.length + (0 + 1) + sp2.length) : Nat) : Int) + 1 + sp3.length by omega, show out.length + sp.length + 1 + sp2.length + 1 = out.length + (sp.length + (0 + 1) + sp2.length + (0 + 1)) by omega, show out.length + sp.length + 1 = out.length + (sp.length + (0 + 1)) by omega] at hat5
                  exact hat5
                · dsimp only
                  simp only [List.length_append, List.length_cons, List.length_nil]
                  omega
      · exfalso
        rcases hask with h | h <;> rw [h] at h0 <;> exact absurd h0 (by decide)
    · rw [if_neg (by omega), if_neg (by omega)]
      refine Sim.ok ⟨F2, ⟨g7, g10, g11, g12, f3⟩, ?_, ⟨c1, c2, c3, c4⟩⟩
      dsimp only
      rcases hend with ⟨h0, own, ws, r0, hR, hop, hsp, hlen, hat⟩ | ⟨h0, hat⟩
      · rw [hsp]
        exact fin_at hE hR hop g8 (by omega) h0 (by omega) hat
      · exact hat
theorem chs_all (hE : PEnv f n T G0 st) : ∀ r, CHs d Q f n T G0 st r := by
  intro r
  induction r with
  | zero => exact choi_sim hE (fun r' h => by cases h)
  | succ r ih => exact choi_sim hE (fun r' h => by cases h; exact ih)
end sim6

