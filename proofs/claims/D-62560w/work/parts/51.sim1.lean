/-! THE TWIN's READING: calls, chains, signs -/
set_option maxRecDepth 100000
theorem enc_cll {st b : Nat} {need name : Int} {a : List Sp} {c : Nat} (hn : need = 13 ∨ need = 14) : encL st b (cllS need name a c) = (need, (st : Int) + b + 1 + (a.length + 1)) :: (encL st (b + 1) a ++ [(15, 4 * name + c)]) := by
  unfold cllS
  rw [List.append_assoc, List.singleton_append, encL, encL_app, encL, encL]
  have h1 : isJ need = true := by rcases hn with h | h <;> rw [h] <;> rfl
  have h2 : isJ 15 = false := rfl
  unfold enc1
  dsimp only
  rw [h1, h2, if_pos rfl, if_neg (by decide)]
theorem cll_eq {st : Nat} {need name : Int} {out a : List Sp} {c : Nat} {L : Int} (hn : need = 13 ∨ need = 14) (hL : L = out.length + 1 + a.length) : ptc ((out ++ [(need, 0)] ++ encL st (out.length + 1) a) ++ [(15, 4 * name + c)]) out.length ((st : Int) + L + 1) = out ++ encL st out.length (cllS need name a c) := by
  rw [enc_cll hn, List.append_assoc, List.append_assoc, List.singleton_append, ptc_at]
  congr 2
  congr 1
  omega
section sim1
variable (d : Nat) (Q : mR → Prop) (f : Int → Int) (n : Int) (T : List (Int × Int × Int)) (G0 : mG) (st : Nat)
def KF (F F' : Fm) (sh : Nat) : Prop := F' 107 = F 107 ∧ F' 110 = F 110 ∧ F' 111 = F 111 ∧ F' 112 = F 112 ∧ ((¬ F' 114 = 0 ∧ ¬ F' 115 = 0) ↔ ¬ sh = 0)
def Kb (i k L0 k' j len : Nat) : Prop := k' + 2 * i ≤ k + 2 * j ∧ i < j ∧ j < T.length ∧ L0 + len ≤ 2 * j
/-- a choice is read as the plain function says; r more may be opened -/
def CHs (r : Nat) : Prop := ∀ (k : Nat) (G : mG) (i : Nat) (out : List Sp) (F : Fm) (fr wt : List Fm) (ta ts : Int), F 109 = 0 → F 113 = 0 → F 108 = wt.length → ¬ F 114 = 0 → PR T G0 st G i out true (F :: fr) wt ta ts → fr.length + r = 4 → out.length + wt.length + sgc fr ≤ 2 * i → wt.length ≤ i → k ≤ 2 * i + 4 →
  Sim d Q G0 st (choiR f n T (innR f n T r) i) (fun q k' G' => ∃ F', KF F F' q.1 ∧ At12 d T G0 st G' q.2.2 (out ++ encL st out.length q.2.1) F' fr wt ta ts ∧ Kb T i k (out.length + wt.length + sgc fr) k' q.2.2 q.2.1.length) k G
variable {d Q f n T G0 st} {r : Nat} {G : mG} {i k : Nat} {out : List Sp} {op : Bool} {fr wt : List Fm} {F : Fm} {ta ts : Int}
theorem clp_sim {name soft need : Int} (hE : PEnv f n T G0 st) (IH : ∀ r', r = r' + 1 → CHs d Q f n T G0 st r') (hr : fr.length + r = 4) (hcl : ClP n T G0 st i out fr wt F ta ts name soft G) (hnm : 0 ≤ name ∧ name ≤ 14348906) (hnd : need = if soft = 0 then 13 else 14)
    (hw : out.length + wt.length + sgc (F :: fr) + 1 ≤ 2 * i) (hww : wt.length ≤ i) (hk : k ≤ 2 * i + 4) : match argsR n T (innR f n T r) (i + 1) with
    | .inl e => (∀ k' G', PE G0 st G' e.1 e.2 → Lp d Q k' G') → Lp d Q k G
    | .inr a => (∀ k' G' F', (∀ x, ¬ x = 115 → F' x = F x) → F' 115 = 0 → PR T G0 st G' a.2.2 (out ++ encL st out.length (cllS need name a.1 a.2.1)) false (F' :: fr) wt ta ts → Kb T i k (out.length + wt.length + sgc (F :: fr)) k' a.2.2 (a.1.length + 2) → Lp d Q k' G') → Lp d Q k G := by
  have h41 := hE.2.2.1
  have hn2 : need = 13 ∨ need = 14 := by rw [hnd]; split <;> omega
  have hup : ∀ x, ¬ x = 115 → up F 115 0 x = F x := fun x hx => by unfold up; rw [if_neg hx]
  have hsg := sgc (F :: fr)
  unfold argsR
  rcases hcl with ⟨h1, p⟩ | ⟨h1, h2, hpe⟩ | ⟨h1, h2, F', hF, g1, g2, g3, p⟩
  · rw [if_pos h1]
    intro hx
    refine hx k G _ hup rfl ?_ ⟨by dsimp only; omega, by dsimp only; omega, p.bd.2.2.1, by dsimp only [List.length_nil]; omega⟩
    rw [enc_cll hn2]
    rw [← hnd] at p
    have e1 : (st : Int) + out.length + 1 + (([] : List Sp).length + 1) = st + out.length + 2 := by rw [List.length_nil]; omega
    rw [e1]
    have e2 : (4 * name + ((0 : Nat) : Int)) = 4 * name := by omega
    dsimp only
    rw [e2]
    exact p
  · rw [if_neg h1]
    have : r = 0 := by omega
    subst this
    exact fun hx => hx k G hpe
  · rw [if_neg h1]
    rw [← hnd] at p
    obtain ⟨r', hr'⟩ : ∃ r', r = r' + 1 := ⟨r - 1, by omega⟩
    subst hr'
    have hs := IH r' rfl
    obtain ⟨f1, f2, f3, f4, f5, f6⟩ := hF
    have hl1 : (out ++ [(need, (0 : Int))]).length = out.length + 1 := by simp
    have s1 := hs k G (i + 1) _ F' (F :: fr) wt ta ts f3 f4 f2 (by omega) p (by simp only [List.length_cons]; omega) (by rw [hl1]; omega) (by omega) (by omega)
    rw [show innR f n T (r' + 1) (i + 1) = choiR f n T (innR f n T r') (i + 1) from rfl]
    cases hq : choiR f n T (innR f n T r') (i + 1) with
    | inl e => rw [hq] at s1; exact s1
    | inr q =>
      rw [hq] at s1
      obtain ⟨sh, sp, j⟩ := q
      rw [hl1] at s1
      dsimp only at s1 ⊢
      have harg : ∀ (c : Nat) (F2 : Fm) (a sp2 : List Sp) (k2 j2 : Nat) (G2 : mG), (c = 1 ∨ c = 2) → F2 107 = 3 → F2 110 = (st : Int) + out.length → F2 111 = name → F2 112 = c → At12 d T G0 st G2 j2 (out ++ [(need, 0)] ++ encL st (out.length + 1) a) F2 (F :: fr) wt ta ts → Kb T i k (out.length + wt.length + sgc (F :: fr)) k2 j2 (a.length + 1) →
          (∀ G', (tkd n T j2 = 44 ∧ c = 1) → PR T G0 st G' (j2 + 1) (out ++ [(need, 0)] ++ encL st (out.length + 1) a) true (freshF (up F2 112 2) wt.length :: F :: fr) wt ta ts → Lp d Q (k2 + 1) G') →
          (∀ G', ¬ (tkd n T j2 = 44 ∧ c = 1) ∧ ¬ tkd n T j2 = 41 → PE G0 st G' 2 (tpl n T j2) → Lp d Q (k2 + 1) G') →
          (∀ G', tkd n T j2 = 41 → PR T G0 st G' (j2 + 1) (out ++ encL st out.length (cllS need name a c)) false (up F 115 0 :: fr) wt ta ts → Lp d Q (k2 + 1) G') → Lp d Q k2 G2 := by
        intro c F2 a sp2 k2 j2 G2 hc c1 c2 c3 c4 hat hb x1 x2 x3
        obtain ⟨b1, b2, b3, b4⟩ := hb
        have hlo : (out ++ [(need, (0 : Int))] ++ encL st (out.length + 1) a).length = out.length + 1 + a.length := by rw [List.length_append, hl1, encL_len]
        refine turn_beh hat.1 (by omega) (hat.2 _ (fun G3 p3 => tw_fin3 hE p3 c1 (tw_argument hE p3 (k := out.length) (by omega) (by omega) c2 (by rw [hlo]; omega) (by rw [hlo]; omega)))) (fun G3 h3 => ?_)
        rcases h3 with ⟨⟨d1, d2⟩, p3⟩ | ⟨⟨d1, d2⟩, p3⟩ | ⟨d1, p3⟩
        · exact x1 G3 ⟨d1, by omega⟩ p3
        · exact x2 G3 ⟨by omega, d2⟩ p3
        · refine x3 G3 d1 ?_
          rw [c3, c4, cll_eq hn2 (by rw [hlo]; omega)] at p3
          exact p3
      have hgo : ∀ (hx : ∀ k2 G2 F2, KF F' F2 sh → At12 d T G0 st G2 j (out ++ [(need, 0)] ++ encL st (out.length + 1) sp) F2 (F :: fr) wt ta ts → Kb T (i + 1) k (out.length + 1 + wt.length + sgc (F :: fr)) k2 j sp.length → Lp d Q k2 G2), Lp d Q k G := fun hx => s1 (fun k2 G2 ⟨F2, e1, e2, e3⟩ => hx k2 G2 F2 e1 e2 e3)
      have hj : ∀ k2, Kb T (i + 1) k (out.length + 1 + wt.length + sgc (F :: fr)) k2 j sp.length → Kb T i k (out.length + wt.length + sgc (F :: fr)) k2 j (sp.length + 1) ∧ k2 + 1 + 2 * i + 1 ≤ k + 2 * j := fun k2 ⟨b1, b2, b3, b4⟩ => ⟨⟨by omega, by omega, b3, by omega⟩, by omega⟩
      by_cases ha : tkd n T j = 41
      · rw [if_pos ha]
        intro hx
        refine hgo (fun k2 G2 F2 ⟨m1, m2, m3, m4, m5⟩ hat hb => ?_)
        obtain ⟨w1, w2⟩ := hj k2 hb
        refine harg 1 F2 sp sp k2 j G2 (Or.inl rfl) (by omega) (by omega) (by omega) (by rw [m4, g3]; rfl) hat w1 (fun G' hh => by omega) (fun G' hh => by omega) (fun G' _ p => ?_)
        obtain ⟨v1, v2, v3, v4⟩ := w1
        exact hx _ _ _ hup rfl p ⟨by dsimp only; omega, by dsimp only; omega, p.bd.2.2.1, by dsimp only; omega⟩
      · rw [if_neg ha]
        by_cases h44 : tkd n T j = 44
        · rw [if_pos h44]
          rw [show innR f n T (r' + 1) (j + 1) = choiR f n T (innR f n T r') (j + 1) from rfl]
          have hs2 : ∀ (k2 : Nat) (G2 : mG) (F2 : Fm) (hn : Lp d Q k2 G2 → Prop), True := fun _ _ _ _ => trivial
          have hsec : ∀ k2 G2 F2, KF F' F2 sh → At12 d T G0 st G2 j (out ++ [(need, 0)] ++ encL st (out.length + 1) sp) F2 (F :: fr) wt ta ts → Kb T (i + 1) k (out.length + 1 + wt.length + sgc (F :: fr)) k2 j sp.length → (∀ G', PR T G0 st G' (j + 1) (out ++ [(need, 0)] ++ encL st (out.length + 1) sp) true (freshF (up F2 112 2) wt.length :: F :: fr) wt ta ts → Lp d Q (k2 + 1) G') → Lp d Q k2 G2 := by
            intro k2 G2 F2 hkf hat hb hy
            obtain ⟨m1, m2, m3, m4, m5⟩ := hkf
            obtain ⟨w1, w2⟩ := hj k2 hb
            exact harg 1 F2 sp sp k2 j G2 (Or.inl rfl) (by omega) (by omega) (by omega) (by rw [m4, g3]; rfl) hat w1 (fun G' _ p => hy G' p) (fun G' hh => by omega) (fun G' hh => by omega)
          have hlo : (out ++ [(need, (0 : Int))] ++ encL st (out.length + 1) sp).length = out.length + 1 + sp.length := by rw [List.length_append, hl1, encL_len]
          have hs3 : ∀ k2 G2 F2, KF F' F2 sh → Kb T (i + 1) k (out.length + 1 + wt.length + sgc (F :: fr)) k2 j sp.length → PR T G0 st G2 (j + 1) (out ++ [(need, 0)] ++ encL st (out.length + 1) sp) true (freshF (up F2 112 2) wt.length :: F :: fr) wt ta ts → _ := fun k2 G2 F2 hkf hb p => hs (k2 + 1) G2 (j + 1) _ (freshF (up F2 112 2) wt.length) (F :: fr) wt ta ts rfl rfl rfl (show ¬ (1 : Int) = 0 by decide) p (by simp only [List.length_cons]; omega) (by rw [hlo]; obtain ⟨b1, b2, b3, b4⟩ := hb; omega) (by obtain ⟨b1, b2, b3, b4⟩ := hb; omega) (by obtain ⟨b1, b2, b3, b4⟩ := hb; omega)
          cases hq2 : choiR f n T (innR f n T r') (j + 1) with
          | inl e =>
            intro hx
            refine hgo (fun k2 G2 F2 hkf hat hb => hsec k2 G2 F2 hkf hat hb (fun G' p => ?_))
            have s2 := hs3 k2 G' F2 hkf hb p
            rw [hq2] at s2
            exact s2 hx
          | inr q2 =>
            obtain ⟨sh2, sp2, j2⟩ := q2
            have hE2 : out ++ [(need, (0 : Int))] ++ encL st (out.length + 1) sp ++ encL st (out.length + 1 + sp.length) sp2 = out ++ [(need, 0)] ++ encL st (out.length + 1) (sp ++ sp2) := by rw [encL_app]; simp only [List.append_assoc]
            have hfin : ∀ (y2 : ∀ k3 G', ¬ tkd n T j2 = 41 → PE G0 st G' 2 (tpl n T j2) → Lp d Q k3 G') (y3 : ∀ k3 G', tkd n T j2 = 41 → PR T G0 st G' (j2 + 1) (out ++ encL st out.length (cllS need name (sp ++ sp2) 2)) false (up F 115 0 :: fr) wt ta ts → Kb T i k (out.length + wt.length + sgc (F :: fr)) k3 (j2 + 1) ((sp ++ sp2).length + 2) → Lp d Q k3 G'), Lp d Q k G := by
              intro y2 y3
              refine hgo (fun k2 G2 F2 hkf hat hb => hsec k2 G2 F2 hkf hat hb (fun G' p => ?_))
              have s2 := hs3 k2 G' F2 hkf hb p
              rw [hq2] at s2
              refine s2 (fun k3 G3 ⟨F3, ⟨m1, m2, m3, m4, m5⟩, hat3, hb3⟩ => ?_)
              dsimp only at hat3 hb3
              rw [hlo, hE2] at hat3
              rw [hlo] at hb3
              obtain ⟨n1, n2, n3, n4, n5⟩ := hkf
              have q1 : F3 107 = F2 107 := m1
              have q2 : F3 110 = F2 110 := m2
              have q3 : F3 111 = F2 111 := m3
              have q4 : F3 112 = 2 := m4
              obtain ⟨b1, b2, b3, b4⟩ := hb
              obtain ⟨c1, c2, c3, c4⟩ := hb3
              refine harg 2 F3 (sp ++ sp2) sp k3 j2 G3 (Or.inr rfl) (by omega) (by omega) (by omega) (by rw [q4]; rfl) hat3 ⟨by omega, by omega, c3, by rw [List.length_append]; omega⟩ (fun G' hh => by omega) (fun G' hh => y2 _ G' hh.2) (fun G' hh p => y3 _ G' hh p ⟨by omega, by omega, p.bd.2.2.1, by rw [List.length_append]; omega⟩)
            dsimp only
            by_cases h2 : tkd n T j2 = 41
            · rw [if_pos h2]
              exact fun hx => hfin (fun _ _ hh => absurd h2 hh) (fun k3 G' _ p hb => hx k3 G' _ hup rfl p hb)
            · rw [if_neg h2]
              exact fun hx => hfin (fun k3 G' _ hp => hx k3 G' hp) (fun _ _ hh => absurd hh h2)
        · rw [if_neg h44]
          intro hx
          refine hgo (fun k2 G2 F2 ⟨m1, m2, m3, m4, m5⟩ hat hb => ?_)
          obtain ⟨w1, w2⟩ := hj k2 hb
          exact harg 1 F2 sp sp k2 j G2 (Or.inl rfl) (by omega) (by omega) (by omega) (by rw [m4, g3]; rfl) hat w1 (fun G' hh => by omega) (fun G' hh p => hx _ _ p) (fun G' hh => by omega)
end sim1

