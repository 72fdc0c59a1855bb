/-! SOUNDNESS: assignability, casts, copies -/
set_option maxRecDepth 100000
theorem oar_lo : ∀ a, a < 22 → ¬ oar a = true := by decide
theorem stok56 {u : Nat} (h : stok 3 56 u = true) (h99 : ¬ u = 99) : 4 ≤ u ∧ u ≤ 19 := by
  unfold stok at h
  simp at h
  omega
section asg
variable {D : mW} {Sta : State} {p : Program} {l : Launch} {e : Env} {R : Room} {s : State} {mi : MethodId} {args : Array Value} {below : List Frame} {meth : Method} {c : Code} {n0 u0 : Nat} {Q : State → Prop}
theorem catsum (hD : D.2.2.1.category = 1) (r : List Value) : ((r.map (Wtv D)).map fun v => v.category).sum ≤ 2 * r.length := by
  induction r with
  | nil => simp
  | cons v t ih =>
    simp only [List.map_cons, List.sum_cons, List.length_cons]
    have h : (Wtv D v).category ≤ 2 := by
      rw [cat_tv hD]
      cases v <;> simp [Value.category]
    omega
/-- objects of our classes may lie in an array of objects -/
theorem asgO {m u : Nat} {comp cv : ClassId} (hB : BT Sta) (hC : Ctx D Sta p e s mi meth c m) (h1 : 3 ≤ u) (h2 : u ≤ 19) (hcomp : s.vm.findClass "java/lang/Object" = some comp) (hcv : s.vm.findClass (cNm u) = some cv) : s.vm.assignable cv comp = true := by
  obtain ⟨c0, t0, f1, f2, f3⟩ := Cond.castable_spec (hC.wd (args := #[]) hB (casO u h1 h2) rfl)
  cases hcv.symm.trans f1
  have e1 : t0 = comp := Option.some.inj (f2.symm.trans hcomp)
  rw [← e1]; exact f3
theorem g_asg {m xa vv : Nat} {G : mG} {comp : ClassId} (hB : BT Sta) (hC : Ctx D Sta p e s mi meth c m) (hRc : RepC G) (hst : stok 3 (tg G xa) (tgv G (.ref vv)) = true) (hcomp : ∀ C, aty (tg G xa) = .object C → s.vm.findClass C = some comp) :
    (1 ≤ tg G vv ∧ tg G vv ≤ 25) ∧ ∀ cv, s.vm.findClass (cNm (tg G vv)) = some cv → s.vm.assignable cv comp = true := by
  have h99 := hRc.2.2.1 vv
  have hst : stok 3 (tg G xa) (tg G vv) = true := hst
  generalize tg G vv = u at hst h99 ⊢
  generalize tg G xa = t at hst hcomp
  simp only [stok, Bool.or_eq_true, Bool.and_eq_true, beq_iff_eq, decide_eq_true_eq] at hst
  rcases hst with (((⟨q, -⟩ | ⟨q, r⟩) | ⟨q, r⟩) | ⟨q, r⟩) | ⟨q, r⟩
  · exact absurd q h99
  · subst q
    exact ⟨by omega, fun cv hcv => asgO hB hC (by omega) (by omega) (hcomp _ rfl) hcv⟩
  · subst q
    refine ⟨by omega, fun cv hcv => ?_⟩
    obtain ⟨c0, t0, f1, f2, f3⟩ := Cond.castable_spec (hC.wd (args := #[]) hB (casN u r.1 r.2) rfl)
    cases hcv.symm.trans f1
    have e1 : t0 = comp := Option.some.inj (f2.symm.trans (hcomp _ rfl))
    rw [← e1]; exact f3
  · subst q; subst r
    refine ⟨by omega, fun cv hcv => ?_⟩
    have e1 : cv = comp := Option.some.inj (hcv.symm.trans (hcomp _ rfl))
    rw [e1]; exact va_asg _ _
  · subst q; subst r
    refine ⟨by omega, fun cv hcv => ?_⟩
    have e1 : cv = comp := Option.some.inj (hcv.symm.trans (hcomp _ rfl))
    rw [e1]; exact va_asg _ _
theorem aty_obj {t : Nat} (h : 56 ≤ t ∧ t ≤ 59) : ∃ C, aty t = .object C := by
  have h2 : t = 56 ∨ t = 57 ∨ t = 58 ∨ t = 59 := by omega
  rcases h2 with rfl | rfl | rfl | rfl <;> exact ⟨_, rfl⟩
theorem g_comp {t : Nat} {comp : ClassId} (hcomp : ∀ C, aty t = .object C → s.vm.findClass C = some comp) (h : 56 ≤ t ∧ t ≤ 59) : ∃ k, s.vm.classes[comp]? = some k := by
  obtain ⟨C, hC⟩ := aty_obj h
  obtain ⟨k, hk, -⟩ := Vm.findClass_spec (hcomp C hC)
  exact ⟨k, hk⟩
theorem g_isof {m xa a : Nat} {G : mG} {H : Heap} (hB : BT Sta) (hBC : BC D Sta) (hBA : BA D Sta) (hC : Ctx D Sta p e s mi meth c m) (hR : Rep D Sta.heap G H) (hof : isof (tg G xa) a = true) (haa : (a = 39 ∨ a = 56) ∨ 1 ≤ a ∧ a ≤ 21) :
    ∃ cell, H[Wra D xa]? = some cell ∧ cell.vm.isStatics = false ∧ ∃ ct, s.vm.findClass (cNm a) = some ct ∧ s.vm.assignable cell.cls ct = true := by
  unfold isof at hof
  by_cases h39 : a = 39
  · subst h39
    rw [if_pos rfl] at hof
    simp only [Bool.and_eq_true, decide_eq_true_eq] at hof
    obtain ⟨cell, hcell, hvst, hcc, hcf⟩ := clsAt hBC hBA hC hR (x := xa) (Or.inl (by omega))
    obtain ⟨c0, t0, f1, f2, f3⟩ := Cond.castable_spec (hC.wd (args := #[]) hB (casN _ hof.1 hof.2) rfl)
    cases hcf.symm.trans f1
    exact ⟨cell, hcell, hvst, t0, f2, f3⟩
  · rw [if_neg h39] at hof
    have hof' : tg G xa = a := by simpa using hof
    obtain ⟨cell, hcell, hvst, hcc, hcf⟩ := clsAt hBC hBA hC hR (x := xa) (by rw [hof']; omega)
    rw [hof'] at hcf
    exact ⟨cell, hcell, hvst, cell.cls, hcf, va_asg _ _⟩
theorem g_cast {H : Heap} {locs : List Loc} {cells slots : Nat} {ls : Array Slot} {rest : List Value} {cc : ByteArray} {pc a : Nat} (hexec : p.tables.exec = Jvm.exec) (hb : c.code = cc) {own nm : String} {index : Nat} {cell : Cell} {ct : ClassId} (hown : s.vm.findClass own = some mi.cls) (hlink : (Cond.classLink own index nm).before args s = true)
    (h1 : H[a]? = some cell) (h2 : cell.vm.isStatics = false) (hct : s.vm.findClass nm = some ct) (hasg : s.vm.assignable cell.cls ct = true) (hdg : decode cc pc = .ok (.checkcast index, 3))
    (k : W p l e R s mi args below meth c H locs cells slots Q (F0 mi (pc + 3) ls (.ref a :: rest))) : W p l e R s mi args below meth c H locs cells slots Q (F0 mi pc ls (.ref a :: rest)) := by
  intro T hT X
  obtain ⟨vm', X', st⟩ := X.checkcastYes hexec hown hlink (by rw [hT]; exact h1) h2 hct hasg (g := F0 mi pc ls (.ref a :: rest)) rfl rfl (by rw [hb]; exact hdg)
  obtain ⟨t, a1, b1⟩ := k (T.setVm vm') hT X'
  exact ⟨t, st t a1, b1⟩
end asg
section copy
variable {D : mW} {Sta : State} {p : Program} {l : Launch} {e : Env} {R : Room} {s : State} {mi : MethodId} {args : Array Value} {below : List Frame} {meth : Method} {c : Code} {n0 u0 : Nat} {Q : State → Prop}
theorem cpy_tg (G : mG) (x i y j k : Nat) : tg (cpy G x i y j k) = tg G := rfl
theorem cpy_ln (G : mG) (x i y j k : Nat) : ln (cpy G x i y j k) = ln G := rfl
theorem cpy_gv {G : mG} {x i y j k s a q : Nat} (h : ¬ (a = y ∧ j ≤ q ∧ q < j + k)) : gv (cpy G x i y j k) s a q = gv G s a q := by
  unfold gv
  split
  · rfl
  · rfl
  · have : gP (cpy G x i y j k) a q = gP G a q := by show (if _ then _ else _) = _; rw [if_neg h]
    rw [this]
  · have : gI (cpy G x i y j k) a q = gI G a q := by show (if _ then _ else _) = _; rw [if_neg h]
    rw [this]
theorem cpy_gvc {G : mG} {x i y j k s q : Nat} (hs : s = 3 ∨ s = 5) (h : j ≤ q ∧ q < j + k) : gv (cpy G x i y j k) s y q = gv G s x (i + (q - j)) := by
  rcases hs with rfl | rfl
  · have : gP (cpy G x i y j k) y q = gP G x (i + (q - j)) := by show (if _ then _ else _) = _; rw [if_pos ⟨rfl, h⟩]
    unfold gv; simp only [this]
  · have : gI (cpy G x i y j k) y q = gI G x (i + (q - j)) := by show (if _ then _ else _) = _; rw [if_pos ⟨rfl, h⟩]
    unfold gv; simp only [this]
theorem RepC.copy {G : mG} {x i y j k : Nat} (h : RepC G) (ht : tg G x = 52 ∧ tg G y = 52 ∨ (tg G x = 56 ∨ tg G x = 63) ∧ tg G y = 56) : RepC (cpy G x i y j k) := by
  refine ⟨?_, ?_, h.2.2⟩
  · intro a q ha
    show chr (if a = y ∧ j ≤ q ∧ q < j + k then gI G x (i + (q - j)) else gI G a q) = true
    have ha' : tg G a = 52 := ha
    split
    · rename_i hh
      rw [hh.1] at ha'
      exact h.1 x _ (by omega)
    · exact h.1 a q ha'
  · intro a q b ha hb
    have ha' : oar (tg G a) = true := ha
    have hb' : (if a = y ∧ j ≤ q ∧ q < j + k then gP G x (i + (q - j)) else gP G a q) = some b := hb
    show 4 ≤ tg G b ∧ tg G b ≤ 19
    split at hb'
    · rename_i hh
      rw [hh.1] at ha'
      refine h.2.1 x _ b ?_ hb'
      unfold oar at ha' ⊢
      simp only [Bool.or_eq_true, beq_iff_eq] at ha' ⊢
      omega
    · exact h.2.1 a q b ha' hb'
theorem nnt {z : Int32} (hz : 0 ≤ z.toInt) : z.toInt = (z.toNatClampNeg : Int) := by
  show z.toInt = ((z.toInt.toNat : Nat) : Int)
  omega
theorem notlt {z : Int32} (hz : 0 ≤ z.toInt) : ¬ z < 0 := by
  intro h
  have := Int32.lt_iff_toInt_lt.mp h
  simp at this
  omega
theorem g_copy {m d pc x xx yy : Nat} {k j i : Int32} {r : List Value} {L : mL} {G : mG} {H : Heap} {locs : List Loc} {ls : Array Slot} (hB : BT Sta) (hBC : BC D Sta) (hBA : BA D Sta) (hC : Ctx D Sta p e s mi meth c m) (hR : Rep D Sta.heap G H) (hRc : RepC G) (hL : lvR D (mMax m) L ls) (hl : ∀ q ∈ locs, Ws0 D ≤ q.base)
    (hd : d + 1 ≤ R.frames ∧ 41 * (d + 1) ≤ R.locals) (hlk : Cond.methodLink (cNm (mOw m)) x arraycopyName ∈ lw_tbl) (hdec : decode (mCod m) pc = .ok (.invokestatic x, 3))
    (hh : r.length ≤ 8 ∧ asrt (tg G xx) = asrt (tg G yy) ∧ (tg G xx = 52 ∧ tg G yy = 52 ∨ (tg G xx = 56 ∨ tg G xx = 63) ∧ tg G yy = 56) ∧ ¬ xx = yy ∧ 0 ≤ k.toInt ∧ 0 ≤ i.toInt ∧ 0 ≤ j.toInt ∧ i.toInt + k.toInt ≤ ln G xx ∧ j.toInt + k.toInt ≤ ln G yy)
    (hk : Gd D Sta p l e R s mi args below meth c n0 u0 Q (d + 1, m, pc + 3, L, r, cpy G xx i.toNatClampNeg yy j.toNatClampNeg k.toNatClampNeg)) :
    W p l e R s mi args below meth c H locs (nx G - n0) (us G - u0) Q (F0 mi pc ls ((Value.int k :: Value.int j :: Value.ref yy :: Value.int i :: Value.ref xx :: r).map (Wtv D))) := by
  obtain ⟨hx, hb, hml, hr, hown, hlocks, hW, hnm, htab, hs0, hs0', hfro, htr, hD⟩ := id hC
  obtain ⟨h8, has, htt, hne, hk0, hi0, hj0, hin, hjn⟩ := hh
  have hx9 : ¬ asrt (tg G xx) = 9 := by rcases htt with ⟨q, -⟩ | ⟨q | q, -⟩ <;> rw [q] <;> decide
  have hy9 : ¬ asrt (tg G yy) = 9 := by rw [← has]; exact hx9
  have hmut : cst (tg G yy) = false := by rcases htt with ⟨-, q⟩ | ⟨-, q⟩ <;> rw [q] <;> rfl
  have hya : 64 ≤ yy := hR.hi hmut
  obtain ⟨cx, hcx, harx, hknx, hszx, hslx, hokx⟩ := arrC hBA hC hR hx9
  obtain ⟨cy, hcy, hary, hkny, hszy, hsly, hoky⟩ := arrC hBA hC hR hy9
  obtain ⟨hxs, kx, hkx, compx, hkindx⟩ := id harx
  obtain ⟨hys, ky, hky, compy, hkindy⟩ := id hary
  obtain ⟨ky', compy', hky', hkindy', hcompy⟩ := hC.ac hBA hy9
  have hke : ky' = ky := by
    rw [hoky.2.2.2.1] at hky
    exact Option.some.inj (hky'.symm.trans hky)
  subst hke
  have hce : compy' = compy := by
    rw [hkindy] at hkindy'
    cases hkindy'; rfl
  subst hce
  have hki := nnt hk0
  have hii := nnt hi0
  have hji := nnt hj0
  have hcs := catsum (D := D) hD r
  have hval : ∀ q, q < k.toNatClampNeg → cx.slots.getD (i.toNatClampNeg + q) .null = Wtv D (gv G (asrt (tg G xx)) xx (i.toNatClampNeg + q)) := by
    intro q hq
    rw [Array.getD_eq_getD_getElem?, hslx _ (by omega)]
    rfl
  intro T hT X
  obtain ⟨vm', X', step⟩ := X.arraycopy hx hown (hC.wd hB hlk rfl) (hC.wd hB acN rfl) (hC.wd hB acS rfl) (hC.wd hB acI rfl) (src := Wra D xx) (dst := Wra D yy) (cs := cx) (cd := cy) (srcPos := i) (destPos := j) (n := k) (by rw [hT]; exact hcx) (by rw [hT]; exact hcy)
    hxs hys hknx hkny hkx hky hkindx hkindy
    (by rcases htt with ⟨q1, q2⟩ | ⟨q1 | q1, q2⟩ <;> rw [q1, q2] <;> rfl) (notlt hi0) (notlt hj0) (notlt hk0)
    (by rw [hszx]; omega) (by rw [hszy]; omega)
    (fun vm₁ hal q hq => by
      rw [hval q hq]
      rcases htt with ⟨q1, q2⟩ | ⟨q1, q2⟩
      · rw [q1, q2]
        refine ⟨?_, trivial⟩
        show fits .char (.int (gI G xx (i.toNatClampNeg + q))) = true
        have h1 := chr_narrow (hRc.1 xx (i.toNatClampNeg + q) q1)
        rw [← h1]; exact pk_fc _
      · have h3 : asrt (tg G xx) = 3 := by rw [has, q2]; rfl
        rw [h3, q2]
        show fits (.object "java/lang/Object") (Wtv D (rv (gP G xx (i.toNatClampNeg + q)))) = true ∧ _
        cases hb : gP G xx (i.toNatClampNeg + q) with
        | none => exact ⟨rfl, by show State.takes _ _ (Wtv D (rv (gP G xx (i.toNatClampNeg + q)))); rw [hb]; exact trivial⟩
        | some b =>
          refine ⟨rfl, ?_⟩
          show State.takes _ _ (Wtv D (rv (gP G xx (i.toNatClampNeg + q))))
          rw [hb]
          have hb4 := hRc.2.1 xx _ b (by unfold oar; rcases q1 with q1 | q1 <;> rw [q1] <;> rfl) hb
          obtain ⟨cv, hcv, hvst, hvcls, hvf⟩ := clsAt hBC hBA hC hR (x := b) (Or.inl (by omega))
          obtain ⟨kv, hkv, -⟩ := Vm.findClass_spec hvf
          obtain ⟨kE, hkE, -⟩ := Vm.findClass_spec (hcompy "java/lang/Object" (by rw [q2]; rfl))
          obtain ⟨kC', hkC', -⟩ := hal.2.2 _ _ hkv
          obtain ⟨kE', hkE', -⟩ := hal.2.2 _ _ hkE
          refine ⟨cv, (show T.heap[Wra D b]? = some cv by rw [hT]; exact hcv), (fun z hz => by rw [hz] at hvst; cases hvst), ⟨kC', hkC'⟩, ⟨kE', hkE'⟩, ?_⟩
          show vm₁.assignable _ _ = true
          rw [hal.assignable]
          exact asgO hB hC (by omega) (by omega) (hcompy "java/lang/Object" (by rw [q2]; rfl)) hvf)
    (g := F0 mi pc ls ((Value.int k :: Value.int j :: Value.ref yy :: Value.int i :: Value.ref xx :: r).map (Wtv D))) rfl (by rw [hml]; exact hL.1) (rest := r.map (Wtv D)) rfl (by rw [hb]; exact hdec) (by omega)
    (by
      have hnw : nativeFrameWords "java/lang/System" "arraycopy" 5 ≤ 14 := by decide +kernel
      show 2 * 0 + _ + _ ≤ _
      omega)
  have hlt : Wra D yy < H.size := (Array.getElem?_eq_some_iff.mp hcy).1
  have hheap : ((T.setVm vm').setCell (Wra D yy) (copied cx cy i j k)).heap = H.setIfInBounds (Wra D yy) (copied cx cy i j k) := by rw [← hT]; rfl
  obtain ⟨g1, g2, g3, -, -⟩ := Cell.storeRun_facts cy j.toNatClampNeg (cx.stretch i.toNatClampNeg k.toNatClampNeg)
  have hslen : (cx.stretch i.toNatClampNeg k.toNatClampNeg).length = k.toNatClampNeg := by simp [Cell.stretch]
  have hget : ∀ q, (copied cx cy i j k).slots[q]? = if j.toNatClampNeg ≤ q ∧ q < j.toNatClampNeg + k.toNatClampNeg then (cx.stretch i.toNatClampNeg k.toNatClampNeg)[q - j.toNatClampNeg]? else cy.slots[q]? := by
    intro q
    have := Cell.storeRun_get cy j.toNatClampNeg (cx.stretch i.toNatClampNeg k.toNatClampNeg) q (by rw [hslen, hszy]; omega)
    rw [hslen] at this
    exact this
  have hs35 : asrt (tg G yy) = 3 ∨ asrt (tg G yy) = 5 := by rcases htt with ⟨-, q⟩ | ⟨-, q⟩ <;> rw [q]; exact Or.inr rfl; exact Or.inl rfl
  have hR' : Rep D Sta.heap (cpy G xx i.toNatClampNeg yy j.toNatClampNeg k.toNatClampNeg) (H.setIfInBounds (Wra D yy) (copied cx cy i j k)) := by
    obtain ⟨r1, r2, r3, r4, r5⟩ := id hR
    refine ⟨r1, by rw [Array.size_setIfInBounds]; exact r2, ?_, ?_, r5⟩
    · intro a ha
      have ha' : ¬ tg G a = 0 := ha
      obtain ⟨q1, ca, hca, hoka⟩ := r3 a ha'
      refine ⟨q1, ?_⟩
      by_cases hay : a = yy
      · subst hay
        refine ⟨copied cx cy i j k, by simp [hlt], ?_⟩
        obtain ⟨k1, k2, k3, k4, k5, k6⟩ := hoky
        refine ⟨fun _ => by show (copied cx cy i j k).vm = _; rw [show (copied cx cy i j k).vm = cy.vm from g2]; exact k1 hya, by rw [show (copied cx cy i j k).vm = cy.vm from g2]; exact k2, by rw [show (copied cx cy i j k).vm = cy.vm from g2]; exact k3, by rw [show (copied cx cy i j k).cls = cy.cls from g1]; exact k4, fun q => absurd q hy9, fun _ => ⟨by rw [show (copied cx cy i j k).slots.size = cy.slots.size from g3]; exact hszy, fun q hq => ?_⟩⟩
        rw [hget q]
        show _ = some (Wtv D (gv (cpy G xx i.toNatClampNeg a j.toNatClampNeg k.toNatClampNeg) (asrt (tg G a)) a q))
        by_cases hqq : j.toNatClampNeg ≤ q ∧ q < j.toNatClampNeg + k.toNatClampNeg
        · rw [if_pos hqq, cpy_gvc hs35 hqq]
          unfold Cell.stretch
          rw [List.getElem?_map, List.getElem?_range (by omega)]
          simp only [Option.map_some]
          rw [hval _ (by omega), has]
        · rw [if_neg hqq, cpy_gv (fun z => hqq z.2)]
          exact hsly q hq
      · refine ⟨ca, ?_, ?_⟩
        · have := hR.apart hya ha' hay
          simp only [Array.getElem?_setIfInBounds, if_neg (Ne.symm this)]
          exact hca
        · exact cOK_same hoka rfl rfl (fun s' q => cpy_gv (fun z => hay z.1))
    · intro q hq
      have : q ≠ Wra D yy := by rw [Wra_hi hya]; omega
      simp only [Array.getElem?_setIfInBounds, if_neg (Ne.symm this)]
      exact r4 q hq
  obtain ⟨t, a1, b1⟩ := hk _ _ ls hR' (hRc.copy htt) hL (fun q hq => by
      rcases List.mem_append.mp hq with q1 | q1
      · exact hl q q1
      · obtain ⟨z, -, hz⟩ := List.mem_map.mp q1
        rw [← hz]
        show Ws0 D ≤ Wra D yy
        rw [Wra_hi hya]; omega) _ hheap X'
  exact ⟨t, step t a1, b1⟩
end copy
