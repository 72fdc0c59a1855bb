/-! SOUNDNESS: the theorem -/
set_option maxRecDepth 100000
section calls
variable {D : mW} {Sta : State} {p : Program} {l : Launch} {e : Env} {R : Room} {s : State} {mi : MethodId} {args : Array Value} {below : List Frame} {meth : Method} {c : Code} {n0 u0 : Nat}
theorem gcall {m d pc : Nat} {L : mL} {st : List Value} {G : mG} {y : mC} {r1 : mR} {q : mC ⊕ mR} {Q : State → Prop} (hZ : Base D Sta) (hC : Ctx D Sta p e s mi meth c m) (hm : m < mNum) (ha : act (d, m, pc, L, st, G) = some (.inr (.inr y)))
    (hM : ∀ d' mid vs, y = (d', mid, 0, ent (mMax mid) vs, [], G) → mid < mNum → ¬ mid = lawM → (ents vs).length ≤ mMax mid → Mtd D Sta l d' mid vs G r1)
    (hthr : ∀ z, r1.1 = .threw z → tg r1.2 z = 22 ∨ tg r1.2 z = 23) (hf : aft (d, m, pc, L, st, G) r1 = some q)
    (hd : d ≤ R.frames ∧ 41 * d ≤ R.locals) (hn0 : n0 ≤ nx G ∧ u0 ≤ us G) (hgr : nx G ≤ nx r1.2 ∧ us G ≤ us r1.2) (hrm : nx r1.2 - n0 ≤ R.cells ∧ us r1.2 - u0 ≤ R.slots)
    (hk : (∀ z, q = .inl z → Gd D Sta p l e R s mi args below meth c n0 u0 Q z) ∧ ∀ r', q = .inr r' → Q = QE D Sta below args s n0 u0 r') : Gd D Sta p l e R s mi args below meth c n0 u0 Q (d, m, pc, L, st, G) := by
  intro H locs ls hR hRc hL hl
  dsimp only at hR hRc hL ⊢
  obtain ⟨hB, hBC, hBA, hBS, hBK, hBM, hBN, hBI⟩ := id hZ
  obtain ⟨hx, hb, hml, hr, hown, hlocks, hW, hnm, htab, hs0, hs0', hfro, htr, hD⟩ := id hC
  intro T hT X
  obtain ⟨d', mid, vs, en, ig, len, rfl, hy, hmid, hlaw, hent, he, hnext, hdec, h8, hinv⟩ := ginv (ls := ls) hZ hC ha hR hT X
  obtain ⟨mk, vm₁, X₁, hn₁, hstep⟩ := hinv
  have hW₁ : Sta.WarmedH (T.setVm vm₁).vm := State.WarmedH.trans hW X₁.warmed
  have hsum := catsum (D := D) hD (st.drop en.2.2.2.1)
  obtain ⟨A1, hA1⟩ := hB _ (mw_all mid hmid hlaw)
  obtain ⟨A2, hA2⟩ := hB _ (mIni mid hmid)
  have h14 := (mPl mid hmid).2.2.2
  obtain ⟨o, t, Lx, hq, hfree, hWt, Xt, hback⟩ := backX (U := T.setVm vm₁) (Ls := locs) (c0 := nx G - n0) (s0 := us G - u0) (W := 16) (mm := mid) (len := len) (mc := nx r1.2 - nx G) (ms := us r1.2 - us G) (g := F0 mi pc ls ((st.drop en.2.2.2.1).map (Wtv D))) (ig := ig) (mk := mk) (a := (vs.map (Wtv D)).toArray) X₁ rfl (by rw [hml]; exact hL.1) (by rw [hb]; exact hdec) (by show 2 * 0 + (((st.drop en.2.2.2.1).map (Wtv D)).map fun v => v.category).sum ≤ 16; omega) hn₁ (hM d' mid vs hy hmid hlaw hent) hd.1 (by show 16 + (mMax mid + 11) + 41 * d' ≤ _; omega) rfl rfl (by omega) (by omega)
    (wat hW₁ (okw_mWd mid) hA1) (wat hW₁ rfl hA2) ⟨rfl, by show Rep D Sta.heap G T.heap; rw [hT]; exact hR, hRc, hW₁⟩
  obtain ⟨ho, hRt, hRct⟩ := hq
  have ec : nx G - n0 + (nx r1.2 - nx G) = nx r1.2 - n0 := by omega
  have eu : us G - u0 + (us r1.2 - us G) = us r1.2 - u0 := by omega
  rw [ec, eu] at Xt
  have hls : ∀ q ∈ locs ++ Lx, Ws0 D ≤ q.base := fun q hq => by
    rcases List.mem_append.mp hq with q1 | q1
    · exact hl q q1
    · exact hfree q q1
  unfold aft at hf
  dsimp only at hf
  rw [he] at hf
  dsimp only at hf
  cases hr1 : r1.1 with
  | returned w =>
    rw [hr1] at hf ho
    rw [ho] at hback
    cases w with
    | none =>
      dsimp only at hf
      cases hf
      have hz := hk.1 _ rfl t.heap (locs ++ Lx) ls hRt hRct hL hls
      dsimp only at hz
      rw [hnext] at hz
      obtain ⟨t2, a1, b1⟩ := hz (behind (T.setVm vm₁) t) rfl Xt
      exact ⟨t2, hstep _ (Steps.trans hback a1), b1⟩
    | some w =>
      dsimp only at hf
      cases hf
      have hz := hk.1 _ rfl t.heap (locs ++ Lx) ls hRt hRct hL hls
      dsimp only at hz
      rw [hnext] at hz
      obtain ⟨t2, a1, b1⟩ := hz (behind (T.setVm vm₁) t) rfl Xt
      exact ⟨t2, hstep _ (Steps.trans hback a1), b1⟩
  | threw z =>
    rw [hr1] at hf ho
    rw [ho] at hback
    dsimp only at hf
    have htag := hthr z hr1
    obtain ⟨-, cell, hcell, hok⟩ := hRt.2.2.1 z (by omega)
    obtain ⟨vm', X', hx'⟩ := g_thrown hB hBC hBN hm hC Xt (g := F0 mi pc ls ((st.drop en.2.2.2.1).map (Wtv D))) rfl rfl rfl htag (a := Wra D z) hcell hok.2.2.2.1 hok.2.2.1
    cases hh : hnd (mHnd m) pc (tg r1.2 z) with
    | some q' =>
      rw [hh] at hf
      have hx2 : ∀ target, Steps p.tables e below (((behind (T.setVm vm₁) t).setVm vm').setTop (F0 mi q' ls [.ref (Wra D z)])) target → Steps p.tables e below (((behind (T.setVm vm₁) t).setTop (F0 mi pc ls ((st.drop en.2.2.2.1).map (Wtv D)))).pushFrame (.throwing (Wra D z))) target := by
        have h9 : hnd (mHnd m) (F0 mi pc ls ((st.drop en.2.2.2.1).map (Wtv D))).pc (tg r1.2 z) = some q' := hh
        rw [h9] at hx'
        exact hx'
      dsimp only at hf
      cases hf
      have hz := hk.1 _ rfl t.heap (locs ++ Lx) ls hRt hRct hL hls
      dsimp only at hz
      obtain ⟨t2, a1, b1⟩ := hz ((behind (T.setVm vm₁) t).setVm vm') rfl X'
      exact ⟨t2, hstep _ (Steps.trans hback (hx2 _ a1)), b1⟩
    | none =>
      rw [hh] at hf
      have hx2 : Steps p.tables e below (((behind (T.setVm vm₁) t).setTop (F0 mi pc ls ((st.drop en.2.2.2.1).map (Wtv D)))).pushFrame (.throwing (Wra D z))) (((behind (T.setVm vm₁) t).setVm vm').setFrames (.throwing (Wra D z) :: below)) := by
        have h9 : hnd (mHnd m) (F0 mi pc ls ((st.drop en.2.2.2.1).map (Wtv D))).pc (tg r1.2 z) = none := hh
        rw [h9] at hx'
        exact hx'
      dsimp only at hf
      cases hf
      rw [hk.2 _ rfl]
      refine ⟨_, hstep _ (Steps.trans hback hx2), .threw (Wra D z), (g_ended X' _).1, (g_ended X' _).2.1, ⟨by rw [hr1]; rfl, hRt, hRct⟩, locs ++ Lx, (g_ended X' _).2.2.1, (g_ended X' _).2.2.2, hls⟩
end calls
theorem Rep.ns {D : mW} {H0 : Heap} {G : mG} {H : Heap} (h : Rep D H0 G H) (hc : RepC G) : ∀ (q : Nat) (cell : Cell), Ws0 D ≤ q → H[q]? = some cell → cell.vm.isStatics = false := by
  intro q cell hq hcell
  have hlt : q < H.size := (Array.getElem?_eq_some_iff.mp hcell).1
  rw [h.2.1] at hlt
  have h64 := h.1
  have ha : 64 ≤ q - Ws0 D + 64 ∧ q - Ws0 D + 64 < nx G := by omega
  obtain ⟨-, cell', hcell', hok⟩ := h.2.2.1 _ (hc.2.2.2 _ ha.1 ha.2)
  rw [Wra_hi ha.1] at hcell'
  have e : Ws0 D + (q - Ws0 D + 64 - 64) = q := by omega
  rw [e] at hcell'
  cases hcell.symm.trans hcell'
  exact hok.2.2.1
/-- every run of the pure machine is one of the real machine -/
theorem sound_c {D : mW} {Sta : State} {l : Launch} (htr : l.stackTraces = false) (hZ : Base D Sta) (hBZ : BZ D Sta) (hs0 : Ws0 D = Sta.heap.size) (hD : D.2.2.1.category = 1) :
    ∀ (n : Nat) (x : mC) (r : mR), run n x = some r → x.2.1 < mNum → ∀ {p : Program} {e : Env} {R : Room} {s : State} {mi : MethodId} {args : Array Value} {below : List Frame} {meth : Method} {c : Code} {n0 u0 : Nat}, Ctx D Sta p e s mi meth c x.2.1 → (x.1 ≤ R.frames ∧ 41 * x.1 ≤ R.locals) → (n0 ≤ nx x.2.2.2.2.2 ∧ u0 ≤ us x.2.2.2.2.2) → (nx r.2 - n0 ≤ R.cells ∧ us r.2 - u0 ≤ R.slots) →
      Gd D Sta p l e R s mi args below meth c n0 u0 (QE D Sta below args s n0 u0 r) x := by
  intro n
  induction n with
  | zero => intro x r h; cases h
  | succ n ih =>
    intro x r h hm p e R s mi args below meth c n0 u0 hC hd hn0 hrm
    obtain ⟨d, m, pc, L, st, G⟩ := x
    dsimp only at hm hC hd hn0
    rw [run] at h
    cases ha : act (d, m, pc, L, st, G) with
    | none => rw [ha] at h; cases h
    | some q =>
      rw [ha] at h
      rcases act_kind ha with ⟨y, rfl, g1, g2, g3, g4⟩ | ⟨r', rfl, -⟩ | ⟨y, rfl, g1⟩
      · dsimp only at h g1 g2 g3 g4
        have hgr := run_grow n y r h
        refine gstep hZ hC ha hd hn0 (by omega) (ih y r h (by rw [g3]; exact hm) (by rw [g3]; exact hC) (by rw [g4]; exact hd) (by omega) hrm)
      · dsimp only at h
        cases h
        exact gout hZ hBZ hC ha hd hn0 hrm
      · dsimp only at h
        cases hy : run n y with
        | none => rw [hy] at h; cases h
        | some r1 =>
          rw [hy] at h
          dsimp only at h
          have hgr := run_grow n y r1 hy
          rw [g1] at hgr
          dsimp only at hgr
          have hM : ∀ d' mid vs, y = (d', mid, 0, ent (mMax mid) vs, [], G) → mid < mNum → ¬ mid = lawM → (ents vs).length ≤ mMax mid → Mtd D Sta l d' mid vs G r1 := by
            intro d' mid vs hyy hmid hlaw hent
            subst hyy
            unfold Mtd MetX
            refine MetFree.of_bodyS (code := mCod mid) (maxLocals := mMax mid) (ret := mRt mid) (mPl mid hmid).1 ?_ ?_
            · intro args s m h hn
              obtain ⟨mk, meth, c, hn', h1, h2, h3, h4, h5, h6, h7, h8⟩ := mWd_spec (atoms_spec (ws := [mWd mid]) h _ (List.mem_singleton.mpr rfl))
              cases hn.symm.trans hn'
              exact ⟨meth, c, h1, h2, h3, h4, h6, h7⟩
            · intro p e s m args below meth c s₁ B hml hP _
              obtain ⟨rfl, hR, hRc, hW⟩ := hP
              obtain ⟨mk, meth', c', hn', h1, h2, h3, h4, h5, h6, h7, h8⟩ := mWd_spec (atoms_spec (ws := [mWd mid]) B.pre _ (List.mem_singleton.mpr rfl))
              cases B.named.symm.trans hn'
              cases B.method.symm.trans h1
              have X₀ : Stand p l e (headSpec [mWd mid] { frames := d', cells := nx r1.2 - nx G, slots := us r1.2 - us G, locals := 41 * d' }).room s m (vs.map (Wtv D)).toArray below meth c s₁ [] 0 0 := Stand.of_body B
              cases X₀.code.symm.trans h2
              have hh0 : s₁.heap = s.heap := by rw [B.state]; rfl
              have hCtx : Ctx D Sta p e s m meth c mid := ⟨B.exec, h3, h4, h6, by rw [(mPl mid hmid).2.2.1]; exact findClass_of_methodNamed B.named, h7, hW, (name_of_methodNamed B.named h1).1, h5, hs0, by rw [hR.2.1]; omega, hR.2.2.2.1, ⟨by rw [B.admits.platform]; exact htr, hR.ns hRc⟩, hD⟩
              have hGd := ih (d', mid, 0, ent (mMax mid) vs, [], G) r1 hy hmid (p := p) (e := e) (R := { frames := d', cells := nx r1.2 - nx G, slots := us r1.2 - us G, locals := 41 * d' }) (s := s) (mi := m) (args := (vs.map (Wtv D)).toArray) (below := below) (meth := meth) (c := c) (n0 := nx G) (u0 := us G) hCtx ⟨Nat.le_refl _, Nat.le_refl _⟩ ⟨Nat.le_refl _, Nat.le_refl _⟩ ⟨Nat.le_refl _, Nat.le_refl _⟩
              have hG2 := hGd s.heap [] _ hR hRc (lvR.entry hD hent) (fun q hq => by cases hq)
              dsimp only at hG2
              rw [Nat.sub_self, Nat.sub_self] at hG2
              obtain ⟨t, a1, o, b1, b2, b3, b4⟩ := hG2 s₁ hh0 X₀
              refine ⟨t, o, ?_, b1, b2, b3, b4⟩
              rw [lg_entry_eq]
              exact a1
          cases hf : aft (d, m, pc, L, st, G) r1 with
          | none => rw [hf] at h; cases h
          | some q2 =>
            rw [hf] at h
            rcases aft_kind hf with ⟨z, rfl, hz, hz2, hz3⟩ | ⟨rfl, -⟩
            · dsimp only at h hz hz2 hz3
              have hgr2 := run_grow n z r h
              rw [hz] at hgr2
              refine gcall hZ hC hm ha hM (run_thr n y r1 hy) hf hd hn0 hgr (by omega) ⟨fun z' hz' => ?_, fun r' hr' => by cases hr'⟩
              cases hz'
              exact ih z r h (by rw [hz2]; exact hm) (by rw [hz2]; exact hC) (by rw [hz3]; exact hd) (by rw [hz]; omega) hrm
            · dsimp only at h
              cases h
              exact gcall hZ hC hm ha hM (run_thr n y _ hy) hf hd hn0 hgr hrm ⟨fun z' hz' => (by cases hz'), fun r' hr' => by cases hr'; rfl⟩
