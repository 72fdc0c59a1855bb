/-! THE TWIN's READING: the phrase -/
set_option maxRecDepth 100000
def phr2 (f : Int → Int) (n : Int) (T : List (Int × Int × Int)) : PRes := match phrR f n T with
  | .inl e => .inl e
  | .inr sp => .inr (0, sp, 0)
section sim7
variable {d : Nat} {T : List (Int × Int × Int)} {n : Int} {G0 : mG} {st : Nat} {i k : Nat} {out : List Sp} {fr wt : List Fm} {F : Fm} {ta ts : Int} {f : Int → Int} {Q : mR → Prop} {r : Nat} {G : mG} {op : Bool}
theorem turn0 (hE : PEnv f n T G0 st) (p : PR T G0 st G i out op [] wt ta ts) (hk : k < 400) (hx : ∀ G' F, Frsh F 0 wt.length → PR T G0 st G' i out true [F] wt ta ts → Lp d Q (k + 1) G') : Lp d Q k G := by
  have hT := p.hts hE
  have est := p.zst hE
  obtain ⟨t1, t2, t3, t4⟩ := p.tok hE
  have t5 := p.zl hE
  obtain ⟨⟨e1, e2, e3, e4, e5⟩, ⟨e6, e7, e8, e9⟩, b1, b2, b3, b4⟩ := p.bd
  try simp only [List.length_cons, List.length_append, List.length_nil, ptc_len, List.length_dropLast] at e2 e4 e5 b1 b2 b3 b4
  unfold Lp at hx ⊢
  refine w_load rfl rfl rfl ?_
  refine w_const (400) rfl rfl ?_
  refine w_icmp_ge rfl (fun hc83 => ?_) (fun hc83 => ?_)
  · exfalso; simp (disch := omega) only [zF_wF, zF_wA, zF_wJ, zF_wD, zA_wF, zA_wA, zA_wJ, zA_wD, zL_wJ, zL_wF, zL_wA, zL_wD, J_wr, wr_zF, wr_zA, wrJ_zL, wr_id, wrJ_id, ne_eq, reduceCtorEq, not_false_eq_true, not_true_eq_false, if_true, if_false, Nat.reduceEqDiff, eq_self, wif0, if0, Decidable.not_not] at hc83 <;> omega
  · try simp (disch := omega) only [zF_wF, zF_wA, zF_wJ, zF_wD, zA_wF, zA_wA, zA_wJ, zA_wD, zL_wJ, zL_wF, zL_wA, zL_wD, J_wr, wr_zF, wr_zA, wrJ_zL, wr_id, wrJ_id, ne_eq, reduceCtorEq, not_false_eq_true, not_true_eq_false, if_true, if_false, Nat.reduceEqDiff, eq_self, wif0, if0, Decidable.not_not] at hc83
    refine w_load rfl rfl rfl ?_
    refine w_getI0k rfl hT.o (e8) ?_
    refine w_if_ne rfl (fun hc90 => ?_) (fun hc90 => ?_)
    · exfalso; simp (disch := omega) only [zF_wF, zF_wA, zF_wJ, zF_wD, zA_wF, zA_wA, zA_wJ, zA_wD, zL_wJ, zL_wF, zL_wA, zL_wD, J_wr, wr_zF, wr_zA, wrJ_zL, wr_id, wrJ_id, ne_eq, reduceCtorEq, not_false_eq_true, not_true_eq_false, if_true, if_false, Nat.reduceEqDiff, eq_self, wif0, if0, Decidable.not_not] at hc90 <;> omega
    · try simp (disch := omega) only [zF_wF, zF_wA, zF_wJ, zF_wD, zA_wF, zA_wA, zA_wJ, zA_wD, zL_wJ, zL_wF, zL_wA, zL_wD, J_wr, wr_zF, wr_zA, wrJ_zL, wr_id, wrJ_id, ne_eq, reduceCtorEq, not_false_eq_true, not_true_eq_false, if_true, if_false, Nat.reduceEqDiff, eq_self, wif0, if0, Decidable.not_not] at hc90
      refine w_load rfl rfl rfl ?_
      refine w_getI4k rfl hT.o (e9) ?_
      refine w_if_ne rfl (fun hc97 => ?_) (fun hc97 => ?_)
      · exfalso; simp (disch := omega) only [zF_wF, zF_wA, zF_wJ, zF_wD, zA_wF, zA_wA, zA_wJ, zA_wD, zL_wJ, zL_wF, zL_wA, zL_wD, J_wr, wr_zF, wr_zA, wrJ_zL, wr_id, wrJ_id, ne_eq, reduceCtorEq, not_false_eq_true, not_true_eq_false, if_true, if_false, Nat.reduceEqDiff, eq_self, wif0, if0, Decidable.not_not] at hc97 <;> omega
      · try simp (disch := omega) only [zF_wF, zF_wA, zF_wJ, zF_wD, zA_wF, zA_wA, zA_wJ, zA_wD, zL_wJ, zL_wF, zL_wA, zL_wD, J_wr, wr_zF, wr_zA, wrJ_zL, wr_id, wrJ_id, ne_eq, reduceCtorEq, not_false_eq_true, not_true_eq_false, if_true, if_false, Nat.reduceEqDiff, eq_self, wif0, if0, Decidable.not_not] at hc97
        refine w_load rfl rfl rfl ?_
        refine w_getI0k rfl hT.o (e4) ?_
        refine w_if_ne rfl (fun hc104 => ?_) (fun hc104 => ?_)
        · exfalso; simp (disch := omega) only [zF_wF, zF_wA, zF_wJ, zF_wD, zA_wF, zA_wA, zA_wJ, zA_wD, zL_wJ, zL_wF, zL_wA, zL_wD, J_wr, wr_zF, wr_zA, wrJ_zL, wr_id, wrJ_id, ne_eq, reduceCtorEq, not_false_eq_true, not_true_eq_false, if_true, if_false, Nat.reduceEqDiff, eq_self, wif0, if0, Decidable.not_not] at hc104 <;> omega
        · try simp (disch := omega) only [zF_wF, zF_wA, zF_wJ, zF_wD, zA_wF, zA_wA, zA_wJ, zA_wD, zL_wJ, zL_wF, zL_wA, zL_wD, J_wr, wr_zF, wr_zA, wrJ_zL, wr_id, wrJ_id, ne_eq, reduceCtorEq, not_false_eq_true, not_true_eq_false, if_true, if_false, Nat.reduceEqDiff, eq_self, wif0, if0, Decidable.not_not] at hc104
          refine w_load rfl rfl rfl ?_
          refine w_const (0) rfl rfl ?_
          refine w_callV2 rfl (Nat.le_of_ble_eq_true rfl) (Or.inr (Or.inr hT.o)) (Nat.le_of_ble_eq_true rfl) (tw_open (d := d + 4) hE p (by decide)) (fun G109 h109 => ?_)
          skip
          refine w_goto rfl ?_
          refine w_inc1 (1) rfl rfl rfl ?_
          refine w_goto rfl ?_
          rcases h109 with ⟨h1, -⟩ | ⟨h1, F, hF, p⟩
          · exact absurd h1 (by decide)
          · exact hx _ F hF p
theorem Sim.turn0 {res : PRes} {K : Nat × List Sp × Nat → Nat → mG → Prop} (hE : PEnv f n T G0 st) (p : PR T G0 st G i out op [] wt ta ts) (hk : k < 400) (hx : ∀ G' F, Frsh F 0 wt.length → PR T G0 st G' i out true [F] wt ta ts → Sim d Q G0 st res K (k + 1) G') : Sim d Q G0 st res K k G := by
  cases res with
  | inl e => exact fun hy => _root_.Jvm.Pilot.CPhraseDeskLaw_law_r2941_1c522f.turn0 hE p hk (fun G' F h1 h2 => hx G' F h1 h2 hy)
  | inr q => exact fun hy => _root_.Jvm.Pilot.CPhraseDeskLaw_law_r2941_1c522f.turn0 hE p hk (fun G' F h1 h2 => hx G' F h1 h2 hy)
theorem fin_end {res : PRes} {K : Nat × List Sp × Nat → Nat → mG → Prop} {j : Nat} (hE : PEnv f n T G0 st) (hat : At12 d T G0 st G j out F [] [] ta ts) (h7 : F 107 = 0 ∨ F 107 = 1) (h36 : tkd n T j = 36) (hl : out.length ≤ 89) (ht : F 107 = 1 → 0 ≤ ts ∧ ts ≤ 100) (hk : k < 400) (hx : ∀ G', PD G0 st G' (if F 107 = 1 then out ++ [(ts, ta)] else out) → Sim d Q G0 st res K (k + 1) G') : Sim d Q G0 st res K k G :=
  Sim.turn hat.1 hk (hat.2 _ (fun G1 p1 => tw_fin0e (d := d + 1) hE p1 h7 h36 hl ht)) hx
theorem lst {sp : List Sp} (h : ¬ sp = []) : ∃ o s v, sp = o ++ [(s, v)] := by
  have := List.dropLast_concat_getLast h
  exact ⟨sp.dropLast, (sp.getLast h).1, (sp.getLast h).2, this.symm⟩
theorem enc_last {b : Nat} {o : List Sp} {s v : Int} : encL st b (o ++ [(s, v)]) = encL st b o ++ [enc1 st (b + o.length) (s, v)] := by
  rw [encL_app, encL, encL]
theorem enc1_eq {b : Nat} {s v : Int} : enc1 st b (s, v) = (s, (enc1 st b (s, v)).2) := rfl
theorem fin_as {res : PRes} {K : Nat × List Sp × Nat → Nat → mG → Prop} {j : Nat} {s v : Int} (hE : PEnv f n T G0 st) (hat : At12 d T G0 st G j (out ++ [(s, v)]) F [] [] ta ts) (h7 : F 107 = 0 ∨ F 107 = 1) (h36 : ¬ tkd n T j = 36) (hl : out.length + 1 ≤ 90) (hv : (F 107 = 0 ∧ tkd n T j = 61 ∧ ¬ F 114 = 0 ∧ ¬ F 115 = 0) → 0 ≤ v ∧ v ≤ 14348906 ∧ 0 ≤ s ∧ s ≤ 100) (hk : k < 400)
    (hx : ∀ G', (¬ (F 107 = 0 ∧ tkd n T j = 61 ∧ ¬ F 114 = 0 ∧ ¬ F 115 = 0) ∧ PE G0 st G' 2 (tpl n T j)
      ∨ (F 107 = 0 ∧ tkd n T j = 61 ∧ ¬ F 114 = 0 ∧ ¬ F 115 = 0) ∧ (s = 9 ∧ PR T G0 st G' (j + 1) out true [freshF (up F 107 1) ([] : List Fm).length] [] v 38
        ∨ ¬ s = 9 ∧ PR T G0 st G' (j + 1) (out ++ [(39, v)]) true [freshF (up F 107 1) ([] : List Fm).length] [] v 40)) → Sim d Q G0 st res K (k + 1) G') : Sim d Q G0 st res K k G :=
  Sim.turn hat.1 hk (hat.2 _ (fun G1 p1 => tw_fin0 (d := d + 1) hE p1 h7 h36 (tw_assign (d := d + 1) hE p1 hl hv))) hx
theorem phr_sim (hE : PEnv f n T G0 st) (p : PR T G0 st G 0 [] op [] [] ta ts) : Sim d Q G0 st (phr2 f n T) (fun q k' G' => PD G0 st G' (encL st 0 q.2.1)) 0 G := by
  have h41 := hE.2.2.1
  have hN := hE.2.2.2.2.2.2.2.1
  refine Sim.turn0 hE p (by decide) (fun G1 F ⟨f1, f2, f3, f4, f5, f6⟩ p1 => ?_)
  have s1 := chs_all (d := d) (Q := Q) hE 4 1 G1 0 [] F [] [] ta ts f3 f4 f2 (by omega) p1 rfl (by decide) (by decide) (by decide)
  unfold phr2 phrR
  cases hq : choiR f n T (innR f n T 4) 0 with
  | inl e => exact Sim.bindE hq s1
  | inr q =>
    have hsh := choi_sh hN (inn_sh hN 4) hq
    obtain ⟨sh, sp, j⟩ := q
    obtain ⟨sh1, sh2, sh3, sh4⟩ := hsh
    dsimp only at sh1 sh2 sh3 sh4 ⊢
    refine Sim.bindR hq s1 (fun k2 G2 ⟨F2, ⟨g7, g10, g11, g12, g5⟩, hat, b1, b2, b3, b4⟩ => ?_)
    dsimp only at g5 hat b1 b2 b3 b4
    simp only [List.nil_append, List.length_nil, sgc] at hat b4
    obtain ⟨o, s, v, hsp⟩ := lst sh1
    have hol : o.length + 1 = sp.length := by rw [hsp]; simp
    by_cases h36 : tkd n T j = 36
    · rw [if_neg (by omega), if_pos h36]
      refine fin_end hE hat (by omega) h36 (by rw [encL_len]; omega) (fun h => by omega) (by omega) (fun G3 h3 => Sim.ok ?_)
      rw [if_neg (by omega)] at h3
      exact h3
    · rw [hsp, enc_last, enc1_eq] at hat
      have hgl : (sp.getLast?.getD ((0 : Int), (0 : Int))).2 = v := by rw [hsp, List.getLast?_concat]; rfl
      have hdl : sp.dropLast = o := by rw [hsp, List.dropLast_concat]
      have hxv : ¬ sh = 0 → (sh = 1 ∧ o = [] ∧ s = 9 ∨ sh = 2 ∧ (s = 11 ∨ s = 12)) ∧ 0 ≤ v ∧ v ≤ 14348906 := fun h => by
        by_cases c1 : sh = 1
        · obtain ⟨v', e1, e2⟩ := sh2 c1
          rw [hsp] at e1
          have := List.append_inj' (s₁ := o) (s₂ := []) (t₁ := [(s, v)]) (t₂ := [(9, v')]) e1 rfl
          obtain ⟨e3, e4⟩ := this
          cases e4
          exact ⟨Or.inl ⟨c1, e3, rfl⟩, e2⟩
        · by_cases c2 : sh = 2
          · obtain ⟨o', s', v', e1, e2, e3⟩ := sh3 c2
            rw [hsp] at e1
            obtain ⟨e4, e5⟩ := List.append_inj' e1 rfl
            cases e5
            exact ⟨Or.inr ⟨c2, e2⟩, e3⟩
          · exfalso; omega
      have hev : ¬ sh = 0 → (enc1 st (0 + o.length) (s, v)).2 = v := fun h => by
        have := (hxv h).1
        unfold enc1
        dsimp only
        rw [isJ_lo (by omega), if_neg (by decide)]
      have heo : (encL st 0 o).length = o.length := encL_len
      refine fin_as hE hat (by omega) h36 (by rw [heo]; omega) (fun hm => by
        have h0 := g5.mp hm.2.2
        rw [hev h0]
        have := hxv h0
        omega) (by omega) (fun G3 h3 => ?_)
      by_cases h61 : tkd n T j = 61
      · rw [if_pos h61]
        by_cases h0 : sh = 0
        · rw [if_pos h0]
          rcases h3 with ⟨-, hp⟩ | ⟨hm, -⟩
          · exact Sim.err hp
          · exact absurd h0 (g5.mp hm.2.2)
        · rw [if_neg h0, hgl, hdl]
          rw [hev h0] at h3
          obtain ⟨hx1, hx2⟩ := hxv h0
          have hsub : ∃ o' ts', PR T G0 st G3 (j + 1) o' true [freshF (up F2 107 1) ([] : List Fm).length] [] v ts' ∧ o'.length ≤ 2 * (j + 1) ∧ (0 ≤ ts' ∧ ts' ≤ 100) ∧ ∀ sp3 : List Sp, encL st 0 (if sh = 1 then sp3 ++ [(38, v)] else o ++ [(39, v)] ++ sp3 ++ [(40, v)]) = o' ++ encL st o'.length sp3 ++ [(ts', v)] := by
            rcases h3 with ⟨hm, -⟩ | ⟨hm, ⟨h9, p3⟩ | ⟨h9, p3⟩⟩
            · exact absurd ⟨by omega, h61, g5.mpr h0⟩ hm
            · rcases hx1 with ⟨h1, ho, -⟩ | ⟨-, h11⟩
              · subst ho
                refine ⟨_, _, p3, by rw [heo]; simp only [List.length_nil]; omega, by decide, fun sp3 => ?_⟩
                rw [if_pos h1, encL_app, enc_one rfl]
                rfl
              · omega
            · rcases hx1 with ⟨h1, ho, h9'⟩ | ⟨h1, h11⟩
              · exact absurd h9' h9
              · refine ⟨_, _, p3, by rw [List.length_append, heo, List.length_cons, List.length_nil]; omega, by decide, fun sp3 => ?_⟩
                rw [if_neg (by omega), encL_app, encL_app, encL_app, enc_one rfl, enc_one rfl, List.length_append, List.length_append, encL_len, Nat.zero_add]
          obtain ⟨o', ts', p3, ho', hts', henc⟩ := hsub
          have s3 := chs_all (d := d) (Q := Q) hE 4 (k2 + 1) G3 (j + 1) o' _ [] [] v ts' rfl rfl rfl (show ¬ (1 : Int) = 0 by decide) p3 rfl (by simp only [List.length_nil, sgc]; omega) (by simp only [List.length_nil]; omega) (by omega)
          cases hq3 : choiR f n T (innR f n T 4) (j + 1) with
          | inl e => exact Sim.bindE hq3 s3
          | inr q3 =>
            have hsh3 := choi_sh hN (inn_sh hN 4) hq3
            obtain ⟨sh5, sp3, j3⟩ := q3
            refine Sim.bindR hq3 s3 (fun k4 G4 ⟨F5, ⟨z7, z10, z11, z12, z5⟩, hat5, a1, a2, a3, a4⟩ => ?_)
            dsimp only at z5 hat5 a1 a2 a3 a4 ⊢
            simp only [List.length_nil, sgc] at a4
            have z7' : F5 107 = 1 := z7
            by_cases h36b : tkd n T j3 = 36
            · rw [if_pos h36b]
              refine fin_end hE hat5 (by omega) h36b (by rw [List.length_append, encL_len]; omega) (fun _ => hts') (by omega) (fun G6 h6 => Sim.ok ?_)
              rw [if_pos z7', ← henc sp3] at h6
              exact h6
            · rw [if_neg h36b]
              obtain ⟨o5, s5, v5, hsp5⟩ := lst hsh3.1
              dsimp only at hsp5
              have hl5 : o5.length + 1 = sp3.length := by rw [hsp5]; simp
              rw [hsp5, enc_last, enc1_eq, ← List.append_assoc] at hat5
              refine fin_as hE hat5 (by omega) h36b (by rw [List.length_append, encL_len]; omega) (fun hm => by omega) (by omega) (fun G6 h6 => ?_)
              rcases h6 with ⟨-, hp⟩ | ⟨hm, -⟩
              · exact Sim.err hp
              · omega
      · rw [if_neg h61, if_neg h36]
        rcases h3 with ⟨-, hp⟩ | ⟨hm, -⟩
        · exact Sim.err hp
        · exact absurd hm.2.1 h61
end sim7

