/-! THE TWIN's READING: what stands first, chains, signs -/
set_option maxRecDepth 100000
theorem enc_one {st b : Nat} {s v : Int} (h : isJ s = false) : encL st b [(s, v)] = [(s, v)] := by
  rw [encL, encL]
  unfold enc1
  dsimp only
  rw [h, if_neg (by decide)]
theorem isJ_lo {s : Int} (h : s ≤ 12) : isJ s = false := by
  unfold isJ
  exact decide_eq_false (by omega)
section sim2
variable {d : Nat} {Q : mR → Prop} {f : Int → Int} {n : Int} {T : List (Int × Int × Int)} {G0 : mG} {st : Nat} {r : Nat} {G : mG} {i k : Nat} {out : List Sp} {op : Bool} {fr wt : List Fm} {F : Fm} {ta ts : Int} {res res2 : PRes} {K K2 : Nat × List Sp × Nat → Nat → mG → Prop}
theorem Sim.turn {R : mG → Prop} (h : LF G) (hk : k < 400) (hb : Wp (d + 5, 174, 0, [some (.ref 98), none, none, none, none], [], G) (RV R)) (hx : ∀ G', R G' → Sim d Q G0 st res K (k + 1) G') : Sim d Q G0 st res K k G := by
  cases res with
  | inl e => exact fun hy => turn_beh h hk hb (fun G' hr => hx G' hr hy)
  | inr q => exact fun hy => turn_beh h hk hb (fun G' hr => hx G' hr hy)
theorem Sim.turn1 (hE : PEnv f n T G0 st) (p : PR T G0 st G i out true (F :: fr) wt ta ts) (hk : k < 400) (ho : out.length + 3 ≤ 90) (hx : ∀ G', FsP f n T G0 st i out fr wt F ta ts G' → Sim d Q G0 st res K (k + 1) G') : Sim d Q G0 st res K k G := by
  cases res with
  | inl e => exact fun hy => _root_.Jvm.Pilot.CPhraseDeskLaw_law_r2941_1c522f.turn1 hE p hk ho (fun G' hr => hx G' hr hy)
  | inr q => exact fun hy => _root_.Jvm.Pilot.CPhraseDeskLaw_law_r2941_1c522f.turn1 hE p hk ho (fun G' hr => hx G' hr hy)
theorem Sim.err {e p : Int} (h : PE G0 st G e p) : Sim d Q G0 st (.inl (e, p)) K k G := fun hx => hx k G h
theorem Sim.ok {q : Nat × List Sp × Nat} (h : K q k G) : Sim d Q G0 st (.inr q) K k G := fun hx => hx k G h
theorem Sim.bindE {e : Int × Int} (h : res = .inl e) (s : Sim d Q G0 st res K k G) : Sim d Q G0 st (.inl e) K2 k G := by subst h; exact s
theorem Sim.bindR {q : Nat × List Sp × Nat} (h : res = .inr q) (s : Sim d Q G0 st res K k G) (hx : ∀ k' G', K q k' G' → Sim d Q G0 st res2 K2 k' G') : Sim d Q G0 st res2 K2 k G := by
  subst h
  cases res2 with
  | inl e => exact fun hy => s (fun k' G' hK => hx k' G' hK hy)
  | inr q2 => exact fun hy => s (fun k' G' hK => hx k' G' hK hy)
/-- the same for arguments -/
theorem Sim.args {name soft need : Int} {cont : List Sp × Nat × Nat → PRes} (hE : PEnv f n T G0 st) (IH : ∀ r', r = r' + 1 → CHs d Q f n T G0 st r') (hr : fr.length + r = 4) (hcl : ClP n T G0 st i out fr wt F ta ts name soft G) (hnm : 0 ≤ name ∧ name ≤ 14348906) (hnd : need = if soft = 0 then 13 else 14)
    (hw : out.length + wt.length + sgc (F :: fr) + 1 ≤ 2 * i) (hww : wt.length ≤ i) (hk : k ≤ 2 * i + 4)
    (hx : ∀ a k' G' F', (∀ x, ¬ x = 115 → F' x = F x) → F' 115 = 0 → PR T G0 st G' a.2.2 (out ++ encL st out.length (cllS need name a.1 a.2.1)) false (F' :: fr) wt ta ts → Kb T i k (out.length + wt.length + sgc (F :: fr)) k' a.2.2 (a.1.length + 2) → Sim d Q G0 st (cont a) K k' G') :
    ∀ a2, a2 = argsR n T (innR f n T r) (i + 1) → Sim d Q G0 st (Sum.elim Sum.inl cont a2) K k G := by
  intro a2 ha
  have s := clp_sim (d := d) (Q := Q) (k := k) hE IH hr hcl hnm hnd hw hww hk
  rw [← ha] at s
  cases a2 with
  | inl e => exact s
  | inr a =>
    show Sim d Q G0 st (cont a) K k G
    cases hc : cont a with
    | inl e => exact fun hy => s (fun k' G' F' h1 h2 h3 h4 => by have := hx a k' G' F' h1 h2 h3 h4; rw [hc] at this; exact this hy)
    | inr q => exact fun hy => s (fun k' G' F' h1 h2 h3 h4 => by have := hx a k' G' F' h1 h2 h3 h4; rw [hc] at this; exact this hy)
/-- a choice within this one is opened, or it lies too deep -/
theorem inn_sim {how : Int} {X : Fm → Prop} (IH : ∀ r', r = r' + 1 → CHs d Q f n T G0 st r') (hr : fr.length + r = 4) (h : fr.length = 4 ∧ PE G0 st G 3 (tpl n T i) ∨ fr.length < 4 ∧ ∃ F', Frsh F' how wt.length ∧ X F' ∧ PR T G0 st G i out true (F' :: F :: fr) wt ta ts)
    (hw : out.length + wt.length + sgc (F :: fr) ≤ 2 * i) (hww : wt.length ≤ i) (hk : k ≤ 2 * i + 4) : Sim d Q G0 st (innR f n T r i) (fun q k' G' => ∃ F' F2, Frsh F' how wt.length ∧ X F' ∧ KF F' F2 q.1 ∧ At12 d T G0 st G' q.2.2 (out ++ encL st out.length q.2.1) F2 (F :: fr) wt ta ts ∧ Kb T i k (out.length + wt.length + sgc (F :: fr)) k' q.2.2 q.2.1.length) k G := by
  rcases h with ⟨h1, h2⟩ | ⟨h1, F', hF, hX, p⟩
  · have : r = 0 := by omega
    subst this
    exact Sim.err h2
  · obtain ⟨r', hr'⟩ : ∃ r', r = r' + 1 := ⟨r - 1, by omega⟩
    subst hr'
    have hF2 := hF
    obtain ⟨f1, f2, f3, f4, f5, f6⟩ := hF
    have s1 := IH r' rfl k G i out F' (F :: fr) wt ta ts f3 f4 f2 (by omega) p (by simp only [List.length_cons]; omega) hw hww hk
    show Sim d Q G0 st (choiR f n T (innR f n T r') i) _ k G
    cases hq : choiR f n T (innR f n T r') i with
    | inl e => rw [hq] at s1; exact s1
    | inr q => rw [hq] at s1; exact fun hy => s1 (fun k' G' ⟨F2, e1, e2, e3⟩ => hy k' G' ⟨F', F2, hF2, hX, e1, e2, e3⟩)
end sim2

