/-! SOUNDNESS: ends and calls -/
set_option maxRecDepth 100000
def thrSites : List (Nat × Nat × Nat) := [(31, 4, 22), (32, 4, 23), (46, 5, 23), (74, 10, 22)]
theorem thr_ok : ∀ m, m < mNum → (mTs.getD m []).all (fun q => q.2.1 != 40 || thrSites.elem (m, q.1, q.2.2.2.1)) = true := by decide +kernel
theorem lM_law : ∀ q ∈ lM, ¬ q.2.2.2.1 = lawM := by decide +kernel
theorem disp_law : ∀ u, u < 20 → 9 ≤ u → ¬ disp u = lawM := by decide +kernel
theorem take_split {st as : List Value} {b : Nat} {v : Value} (h : (st.take b).reverse = v :: as) : st = as.reverse ++ v :: st.drop b := by
  have h1 : st.take b = as.reverse ++ [v] := by
    have := congrArg List.reverse h
    simpa using this
  have h2 := List.take_append_drop b st
  rw [h1] at h2
  rw [List.append_assoc] at h2
  exact h2.symm
theorem take_len {st vs : List Value} {b : Nat} (hb : b ≤ st.length) (h : (st.take b).reverse = vs) : vs.length = b := by
  rw [← h]
  simp
  omega
section calls
variable {D : mW} {Sta : State} {p : Program} {l : Launch} {e : Env} {R : Room} {s : State} {mi : MethodId} {args : Array Value} {below : List Frame} {meth : Method} {c : Code} {n0 u0 : Nat}
theorem gout {m d pc : Nat} {L : mL} {st : List Value} {G : mG} {r : mR} (hZ : Base D Sta) (hBZ : BZ D Sta) (hC : Ctx D Sta p e s mi meth c m) (ha : act (d, m, pc, L, st, G) = some (.inr (.inl r)))
    (hd : d ≤ R.frames ∧ 41 * d ≤ R.locals) (hn0 : n0 ≤ nx G ∧ u0 ≤ us G) (hrm : nx r.2 - n0 ≤ R.cells ∧ us r.2 - u0 ≤ R.slots) :
    Gd D Sta p l e R s mi args below meth c n0 u0 (QE D Sta below args s n0 u0 r) (d, m, pc, L, st, G) := by
  cases he : ft m pc with
  | none => simp only [act, he] at ha; cases ha
  | some en =>
  have ha0 := ha
  simp only [act, he] at ha
  rcases acte_kind ha with ⟨z, q, -⟩ | ⟨r', q, hop, -⟩ | ⟨z, q, -⟩
  · cases q
  · cases q
    have hsite := List.all_eq_true.mp (thr_ok m (ft_lt he)) _ (ft_mem he)
    obtain ⟨op, v, a, b, c', n, ts⟩ := en
    dsimp only at ha hop hsite
    obtain ⟨i, len, hdec, hok⟩ := ft_ok he (by dsimp only; omega)
    dsimp only at hok
    obtain ⟨hx, hb, hml, hr, hown, hlocks, hW, hnm, htab, hs0, hs0', hfro, htr, hD⟩ := id hC
    rcases hop with rfl | rfl | rfl
    · simp only [acte] at ha
      split at ha
      · rename_i hh
        cases ha
        simp only [bne_self_eq_false, Bool.false_or] at hsite
        have hs := List.mem_of_elem_eq_true hsite
        dsimp only at hrm
        rw [al_nx, al_us] at hrm
        simp only [thrSites, List.mem_cons, Prod.mk.injEq, List.not_mem_nil, or_false] at hs
        rcases hs with ⟨rfl, rfl, rfl⟩ | ⟨rfl, rfl, rfl⟩ | ⟨rfl, rfl, rfl⟩ | ⟨rfl, rfl, rfl⟩
        · exact g_thr (x := 61) (ic := 63) hZ hBZ hC (Or.inl rfl) (by decide +kernel) (by decide +kernel) (by decide +kernel) (by decide +kernel) (by decide +kernel) tc1_22 ti22 tj22 tw1_22 hd hh.1 hh.2 hn0 hrm
        · exact g_thr (x := 58) (ic := 60) hZ hBZ hC (Or.inr rfl) (by decide +kernel) (by decide +kernel) (by decide +kernel) (by decide +kernel) (by decide +kernel) tc1_23 ti23 tj23 tw1_23 hd hh.1 hh.2 hn0 hrm
        · exact g_thr (x := 58) (ic := 60) hZ hBZ hC (Or.inr rfl) (by decide +kernel) (by decide +kernel) (by decide +kernel) (by decide +kernel) (by decide +kernel) tc1_23 ti23 tj23 tw1_23 hd hh.1 hh.2 hn0 hrm
        · exact g_thr (x := 47) (ic := 49) hZ hBZ hC (Or.inl rfl) (by decide +kernel) (by decide +kernel) (by decide +kernel) (by decide +kernel) (by decide +kernel) tc2_22 ti22 tj22 tw2_22 hd hh.1 hh.2 hn0 hrm
      · cases ha
    · simp only [acte] at ha
      split at ha
      · rename_i w
        split at ha
        · rename_i hret
          cases ha
          intro H locs ls hR hRc hL hl
          dsimp only at hR hRc hL ⊢
          cases i <;> simp only [okI, Bool.and_eq_true, Bool.or_eq_true, beq_iff_eq, decide_eq_true_eq, Nat.reduceEqDiff, false_and, and_false, or_false, false_or, Bool.false_eq_true] at hok
          case ireturn =>
            cases hrt : mRt m with
            | none => rw [hrt] at hok; simp at hok
            | some ty =>
              rw [hrt] at hok
              simp only [beq_iff_eq] at hok
              obtain ⟨⟨⟨-, rfl⟩, ha4⟩, hsr⟩ := hok
              have hw : ∃ x, w = .int x := by
                cases w <;> rcases ha4 with ((q | q) | q) | q <;> subst q <;> first | (exact ⟨_, rfl⟩) | (simp [ret1] at hret)
              obtain ⟨x, rfl⟩ := hw
              refine W.mono (fun t h => h.toX) (W.zret hx hb (hr.trans hrt) (ret_nar hsr (by omega) hret) (fun t ht hWt => ⟨rfl, by rw [ht]; exact hR, hRc⟩) hl hdec hlocks)
          case lreturn =>
            cases hrt : mRt m with
            | none => rw [hrt] at hok; simp at hok
            | some ty =>
              rw [hrt] at hok
              simp only [beq_iff_eq] at hok
              obtain ⟨⟨⟨-, rfl⟩, rfl⟩, hsr⟩ := hok
              have hw : ∃ x, w = .long x := by
                cases w <;> first | (exact ⟨_, rfl⟩) | (simp [ret1] at hret)
              obtain ⟨x, rfl⟩ := hw
              have hty : ty = .long := by cases ty <;> simp [srt] at hsr <;> rfl
              subst hty
              exact W.mono (fun t h => h.toX) (W.lret hx hb (hr.trans hrt) (fun t ht hWt => ⟨rfl, by rw [ht]; exact hR, hRc⟩) hl hdec hlocks)
          case dreturn =>
            cases hrt : mRt m with
            | none => rw [hrt] at hok; simp at hok
            | some ty =>
              rw [hrt] at hok
              simp only [beq_iff_eq] at hok
              obtain ⟨⟨⟨-, rfl⟩, rfl⟩, hsr⟩ := hok
              have hw : ∃ x, w = .double x := by
                cases w <;> first | (exact ⟨_, rfl⟩) | (simp [ret1] at hret)
              obtain ⟨x, rfl⟩ := hw
              have hty : ty = .double := by cases ty <;> simp [srt] at hsr <;> rfl
              subst hty
              exact W.mono (fun t h => h.toX) (W.dret hx hb (hr.trans hrt) (fun t ht hWt => ⟨rfl, by rw [ht]; exact hR, hRc⟩) hl hdec hlocks)
          case areturn =>
            cases hrt : mRt m with
            | none => rw [hrt] at hok; simp at hok
            | some ty =>
              rw [hrt] at hok
              simp only [beq_iff_eq] at hok
              obtain ⟨⟨⟨-, rfl⟩, rfl⟩, hsr⟩ := hok
              have hty : (∃ n, ty = .object n) ∨ ∃ t, ty = .array t := by cases ty <;> simp [srt] at hsr <;> simp
              have hv : Wtv D w = .null ∨ ∃ x, Wtv D w = .ref x := by
                cases w <;> first | (exact Or.inl rfl) | (exact Or.inr ⟨_, rfl⟩) | (simp [ret1] at hret)
              exact W.mono (fun t h => h.toX) (W.aret hx hb (hr.trans hrt) hty hv (fun t ht hWt => ⟨rfl, by rw [ht]; exact hR, hRc⟩) hl hdec hlocks)
          all_goals exact absurd hok (by simp)
        · cases ha
      · cases ha
    · simp only [acte] at ha
      split at ha
      · cases ha
        intro H locs ls hR hRc hL hl
        dsimp only at hR hRc hL ⊢
        cases i <;> simp only [okI, Bool.and_eq_true, Bool.or_eq_true, beq_iff_eq, decide_eq_true_eq, Nat.reduceEqDiff, false_and, and_false, or_false, false_or, Bool.false_eq_true] at hok
        case return_ =>
          obtain ⟨⟨-, rfl⟩, hrt⟩ := hok
          exact W.mono (fun t h => h.toX) (W.vret hx hb (hr.trans (Option.isNone_iff_eq_none.mp hrt)) (fun t ht hWt => ⟨rfl, by rw [ht]; exact hR, hRc⟩) hl hdec hlocks)
        all_goals exact absurd hok (by simp)
      · cases ha
  · cases q
/-- an invocation begins -/
theorem ginv {m d pc : Nat} {L : mL} {st : List Value} {G : mG} {y : mC} {H : Heap} {locs : List Loc} {ls : Array Slot} {T : State} {cells slots : Nat} (hZ : Base D Sta) (hC : Ctx D Sta p e s mi meth c m) (ha : act (d, m, pc, L, st, G) = some (.inr (.inr y)))
    (hR : Rep D Sta.heap G H) (hT : T.heap = H) (X : Stand p l e R s mi args below meth c T locs cells slots) :
    ∃ (d' mid : Nat) (vs : List Value) (en : mE) (ig : Instr) (len : Nat), d = d' + 1 ∧ y = (d', mid, 0, ent (mMax mid) vs, [], G) ∧ mid < mNum ∧ ¬ mid = lawM ∧ (ents vs).length ≤ mMax mid ∧ ft m pc = some en ∧ en.2.2.2.2.2.1 = pc + len ∧ decode (mCod m) pc = .ok (ig, len) ∧ (st.drop en.2.2.2.1).length ≤ 8 ∧
      Inv p l e R s mi args below meth c T locs cells slots (F0 mi pc ls (st.map (Wtv D))) ((st.drop en.2.2.2.1).map (Wtv D)) mid (vs.map (Wtv D)).toArray := by
  obtain ⟨hB, hBC, hBA, hBS, hBK, hBM, hBN, hBI⟩ := hZ
  obtain ⟨hx, hb, hml, hr, hown, hlocks, hW, hnm, htab, hs0, hs0', hfro, htr, hD⟩ := id hC
  cases he : ft m pc with
  | none => simp only [act, he] at ha; cases ha
  | some en =>
  simp only [act, he] at ha
  rcases acte_kind ha with ⟨z, q, -⟩ | ⟨r', q, -⟩ | ⟨z, q, hop, -⟩
  · cases q
  · cases q
  cases q
  obtain ⟨op, v, a, b, c', n, ts⟩ := en
  dsimp only at ha hop
  obtain ⟨i, len, hdec, hok⟩ := ft_ok he (by dsimp only; omega)
  dsimp only at hok
  have hwd : ∀ w ∈ lw_tbl, okw w = true → w.before args s = true := fun w h1 h2 => hC.wd hB h1 h2
  rcases hop with rfl | rfl
  · simp only [acte] at ha
    split at ha
    · cases ha
    · rename_i d'
      split at ha
      · rename_i hh
        obtain ⟨hb1, hb2, hrc, hent⟩ := hh
        cases ha
        cases i <;> simp only [okI, Bool.and_eq_true, Bool.or_eq_true, beq_iff_eq, decide_eq_true_eq, Nat.reduceEqDiff, false_and, and_false, or_false, false_or, Bool.false_eq_true] at hok
        case invokevirtual x =>
          obtain ⟨⟨rfl, rfl⟩, ⟨⟨⟨⟨-, hel⟩, hpar⟩, hc1⟩, hc2⟩, hlt⟩ := hok
          have hrc : rcv G c' (st.take b).reverse = true := hrc.resolve_left (by omega)
          obtain ⟨xx, as, hv⟩ : ∃ xx as, (st.take b).reverse = .ref xx :: as := by
            unfold rcv at hrc
            split at hrc
            · rename_i xx as hv; exact ⟨xx, as, hv⟩
            · cases hrc
          have hlen := take_len hb1 hv
          have hsp := take_split hv
          rw [hv] at hrc
          simp only [rcv, Bool.or_eq_true, beq_iff_eq] at hrc
          have htag : tg G xx = c' := hrc.resolve_left (by omega)
          obtain ⟨cell, hcell, hvst, hcc, hcf⟩ := clsAt hBC hBA hC hR (x := xx) (Or.inl (by omega))
          rw [htag] at hcf
          have hcellT : T.heap[Wra D xx]? = some cell := by rw [hT]; exact hcell
          have hlas : as.length = mPars.getD a 0 := by simp only [List.length_cons] at hlen; omega
          have hstk : (F0 mi pc ls (st.map (Wtv D))).stack = (as.map (Wtv D)).reverse ++ .ref (Wra D xx) :: (st.drop b).map (Wtv D) := by
            show st.map (Wtv D) = _
            conv => lhs; rw [hsp]
            simp
            rfl
          have hinv : ¬ a = lawM ∧ Inv p l e R s mi args below meth c T locs cells slots (F0 mi pc ls (st.map (Wtv D))) ((st.drop b).map (Wtv D)) a (Value.ref (Wra D xx) :: as.map (Wtv D)).toArray := by
            rcases hel with (hel | hel) | hel
            · have hmem := List.mem_of_elem_eq_true hel
              obtain ⟨k1, k2, k3⟩ := lM_ok _ hmem
              have hlw := lM_law _ hmem
              exact ⟨hlw, inv_virt X hx hlt hown (hwd _ k1 rfl) (hwd _ k2 rfl) (hwd _ k3 rfl) (hwd _ (mw_all a hlt hlw) (okw_mWd a)) hcellT hvst hcf rfl (by simpa using hlas) hstk (by rw [hb]; exact hdec)⟩
            · have hmem := List.mem_of_elem_eq_true hel
              obtain ⟨⟨host, k1⟩, k2, k3⟩ := lM_ok _ hmem
              have hlw := lM_law _ hmem
              exact ⟨hlw, inv_virtN X hx hlt hown (hwd _ k1 rfl) (hwd _ k2 rfl) (hwd _ k3 rfl) (hwd _ (mw_all a hlt hlw) (okw_mWd a)) hcellT hvst hcf rfl (by simpa using hlas) hstk (by rw [hb]; exact hdec)⟩
            · obtain ⟨⟨⟨⟨ho, rfl⟩, rfl⟩, rfl⟩, rfl⟩ := hel
              have has : as = [] := by
                cases as with
                | nil => rfl
                | cons z zs => simp at hlen
              subst has
              refine ⟨by decide, ?_⟩
              rw [ho] at hown
              exact inv_ord X hx hown (hwd _ orL rfl) (hwd _ orS rfl) (hwd _ orSel rfl) (hwd _ orI rfl) (hwd _ mw25 rfl) hcellT hvst hcf rfl hstk (by rw [hb]; exact hdec)
          exact ⟨d', a, (st.take b).reverse, _, _, 3, rfl, rfl, hlt, hinv.1, hent, rfl, rfl, hdec, hb2, by rw [hv]; exact hinv.2⟩
        case invokestatic x =>
          obtain ⟨⟨rfl, rfl⟩, ⟨⟨⟨-, hc0⟩, hel⟩, hpar⟩, hlt⟩ := hok
          have hlen := take_len hb1 (rfl : (st.take b).reverse = _)
          have hstk : (F0 mi pc ls (st.map (Wtv D))).stack = (((st.take b).reverse).map (Wtv D)).reverse ++ (st.drop b).map (Wtv D) := by
            show st.map (Wtv D) = _
            rw [← List.map_reverse, List.reverse_reverse, ← List.map_append, List.take_append_drop]
          have hinv : ¬ a = lawM ∧ Inv p l e R s mi args below meth c T locs cells slots (F0 mi pc ls (st.map (Wtv D))) ((st.drop b).map (Wtv D)) a (((st.take b).reverse).map (Wtv D)).toArray := by
            rcases hel with hel | hel
            · have hmem := List.mem_of_elem_eq_true hel
              obtain ⟨k1, k2⟩ := lM_ok _ hmem
              have hlw := lM_law _ hmem
              exact ⟨hlw, inv_stat X hx hlt hown (hwd _ k1 rfl) (hwd _ k2 rfl) (hwd _ (mIni a hlt) rfl) (hwd _ (mw_all a hlt hlw) (okw_mWd a)) rfl (by rw [List.length_map, hlen, hpar]) hstk (by rw [hb]; exact hdec)⟩
            · have hmem := List.mem_of_elem_eq_true hel
              obtain ⟨⟨host, k1⟩, k2⟩ := lM_ok _ hmem
              have hlw := lM_law _ hmem
              exact ⟨hlw, inv_statN X hx hlt hown (hwd _ k1 rfl) (hwd _ k2 rfl) (hwd _ (mIni a hlt) rfl) (hwd _ (mw_all a hlt hlw) (okw_mWd a)) rfl (by rw [List.length_map, hlen, hpar]) hstk (by rw [hb]; exact hdec)⟩
          exact ⟨d', a, (st.take b).reverse, _, _, 3, rfl, rfl, hlt, hinv.1, hent, rfl, rfl, hdec, hb2, hinv.2⟩
        case invokespecial x =>
          obtain ⟨⟨rfl, rfl⟩, ⟨⟨⟨-, hc0⟩, hel⟩, hpar⟩, hlt⟩ := hok
          have hrc : rcv G c' (st.take b).reverse = true := hrc.resolve_left (by omega)
          obtain ⟨xx, as, hv⟩ : ∃ xx as, (st.take b).reverse = .ref xx :: as := by
            unfold rcv at hrc
            split at hrc
            · rename_i xx as hv; exact ⟨xx, as, hv⟩
            · cases hrc
          have hlen := take_len hb1 hv
          have hsp := take_split hv
          have hlas : as.length = mPars.getD a 0 := by simp only [List.length_cons] at hlen; omega
          have hstk : (F0 mi pc ls (st.map (Wtv D))).stack = (as.map (Wtv D)).reverse ++ .ref (Wra D xx) :: (st.drop b).map (Wtv D) := by
            show st.map (Wtv D) = _
            conv => lhs; rw [hsp]
            simp
            rfl
          have hinv : ¬ a = lawM ∧ Inv p l e R s mi args below meth c T locs cells slots (F0 mi pc ls (st.map (Wtv D))) ((st.drop b).map (Wtv D)) a (Value.ref (Wra D xx) :: as.map (Wtv D)).toArray := by
            rcases hel with hel | hel
            · have hmem := List.mem_of_elem_eq_true hel
              obtain ⟨k1, k2, k3, k4⟩ := lM_ok _ hmem
              have hlw := lM_law _ hmem
              exact ⟨hlw, inv_init X hx hlt hown k3 k4 (hwd _ k1 rfl) (hwd _ k2 rfl) (hwd _ (mw_all a hlt hlw) (okw_mWd a)) rfl (by simpa using hlas) hstk (by rw [hb]; exact hdec)⟩
            · have hmem := List.mem_of_elem_eq_true hel
              obtain ⟨⟨host, k1⟩, k2, k3, k4⟩ := lM_ok _ hmem
              have hlw := lM_law _ hmem
              exact ⟨hlw, inv_initN X hx hlt hown k3 k4 (hwd _ k1 rfl) (hwd _ k2 rfl) (hwd _ (mw_all a hlt hlw) (okw_mWd a)) rfl (by simpa using hlas) hstk (by rw [hb]; exact hdec)⟩
          exact ⟨d', a, (st.take b).reverse, _, _, 3, rfl, rfl, hlt, hinv.1, hent, rfl, rfl, hdec, hb2, by rw [hv]; exact hinv.2⟩
        all_goals exact absurd hok (by simp)
      · cases ha
  · simp only [acte] at ha
    split at ha
    · rename_i d' xx as hv
      split at ha
      · rename_i hh
        obtain ⟨hb1, hb2, hu1, hu2, hent⟩ := hh
        cases ha
        cases i <;> simp only [okI, Bool.and_eq_true, Bool.or_eq_true, beq_iff_eq, decide_eq_true_eq, Nat.reduceEqDiff, false_and, and_false, or_false, false_or, Bool.false_eq_true] at hok
        case invokeinterface x k =>
          obtain ⟨⟨⟨⟨-, rfl⟩, rfl⟩, rfl⟩, hel⟩ := hok
          have hlen := take_len hb1 hv
          have hsp := take_split hv
          obtain ⟨cell, hcell, hvst, hcc, hcf⟩ := clsAt hBC hBA hC hR (x := xx) (Or.inl (by omega))
          have hcellT : T.heap[Wra D xx]? = some cell := by rw [hT]; exact hcell
          obtain ⟨w1, w2, w3, w4, w5, w6⟩ := nrU _ hu1 hu2
          have hstk : (F0 mi pc ls (st.map (Wtv D))).stack = (as.map (Wtv D)).reverse ++ .ref (Wra D xx) :: (st.drop 3).map (Wtv D) := by
            show st.map (Wtv D) = _
            conv => lhs; rw [hsp]
            simp
            rfl
          have hF : va_Fw (cNm (tg G xx)) nodeRun (mY (disp (tg G xx))) s := by
            have hs : ∀ w ∈ lw_tbl, w.onTables = true → w.before #[] Sta = true := fun w h1 h2 => by
              obtain ⟨A, hA⟩ := hB w h1
              exact va_any h2 hA
            have h0 : va_Fw (cNm (tg G xx)) nodeRun (mY (disp (tg G xx))) Sta := ⟨hs _ nrD rfl, hs _ nrI rfl, hs _ w5 rfl, hs _ w6 rfl, hs _ (casN _ hu1 hu2) rfl⟩
            exact h0.moved (by decide) hW.alike
          have hinv := inv_face X hx w1 w2 hown (hwd _ (nrL _ (List.mem_of_elem_eq_true hel)) rfl) hF (hwd _ w3 rfl) (hwd _ w4 rfl) hcellT hvst hcf (g := F0 mi pc ls (st.map (Wtv D))) rfl (as := as.map (Wtv D)) (by rw [List.length_map]; simp only [List.length_cons] at hlen; omega) hstk (by rw [hb]; exact hdec)
          exact ⟨d', disp (tg G xx), .ref xx :: as, _, _, 5, rfl, rfl, w1, disp_law _ (by omega) hu1, hent, rfl, rfl, hdec, hb2, hinv⟩
        all_goals exact absurd hok (by simp)
      · cases ha
    · cases ha
end calls
