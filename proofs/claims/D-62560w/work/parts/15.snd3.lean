/-! SOUNDNESS: arrays and new cells -/
set_option maxRecDepth 100000
theorem asrt_tag {t : Nat} (h : ¬ asrt t = 9) : (50 ≤ t ∧ t ≤ 60) ∨ t = 62 ∨ t = 63 := by
  unfold asrt at h
  split at h <;> omega
section arrays
variable {D : mW} {Sta : State} {p : Program} {l : Launch} {e : Env} {R : Room} {s : State} {mi : MethodId} {args : Array Value} {below : List Frame} {meth : Method} {c : Code} {n0 u0 : Nat} {Q : State → Prop}
/-- the class of an array at the method's start -/
theorem Ctx.ac {m t : Nat} (hC : Ctx D Sta p e s mi meth c m) (hBA : BA D Sta) (h : ¬ asrt t = 9) : ∃ k comp, s.vm.classes[WdC D t]? = some k ∧ k.kind = .array comp (aty t) ∧ ∀ C, aty t = .object C → s.vm.findClass C = some comp := by
  have hal := hC.2.2.2.2.2.2.1.alike
  have hmain : ∀ t, 50 ≤ t → t ≤ 60 → ∃ k comp, s.vm.classes[WdC D t]? = some k ∧ k.kind = .array comp (aty t) ∧ ∀ C, aty t = .object C → s.vm.findClass C = some comp := by
    intro t h1 h2
    obtain ⟨-, k, comp, hk, hkind, hcomp⟩ := hBA.1 t h1 h2
    obtain ⟨k', hk', he⟩ := hal.2.2 _ _ hk
    exact ⟨k', comp, hk', by rw [he]; exact hkind, fun C hC' => by rw [hal.findClass]; exact hcomp C hC'⟩
  rcases asrt_tag h with ⟨h1, h2⟩ | h1 | h1
  · exact hmain t h1 h2
  · subst h1; rw [hBA.2.1]; exact hmain 50 (by decide) (by decide)
  · subst h1; rw [hBA.2.2]; exact hmain 56 (by decide) (by decide)
/-- an array's cell -/
theorem arrC {m x : Nat} {G : mG} {H : Heap} (hBA : BA D Sta) (hC : Ctx D Sta p e s mi meth c m) (hR : Rep D Sta.heap G H) (h : ¬ asrt (tg G x) = 9) :
    ∃ cell, H[Wra D x]? = some cell ∧ s.isArrayOf cell (aty (tg G x)) ∧ cell.vm ≠ .unknown ∧ cell.slots.size = ln G x ∧ (∀ k, k < ln G x → cell.slots[k]? = some (Wtv D (gv G (asrt (tg G x)) x k))) ∧ cOK D G x cell := by
  have h0 : ¬ tg G x = 0 := by intro q; rw [q] at h; exact h rfl
  obtain ⟨-, cell, hcell, hok⟩ := hR.2.2.1 x h0
  obtain ⟨k1, k2, k3, k4, k5, k6⟩ := id hok
  obtain ⟨k, comp, hk, hkind, -⟩ := hC.ac hBA h
  refine ⟨cell, hcell, ⟨fun q hq => ?_, k, by rw [k4]; exact hk, comp, hkind⟩, k2, (k6 h).1, (k6 h).2, hok⟩
  rw [hq] at k3; cases k3
theorem ldok_asrt {a t : Nat} (h : ldok a t = true) : ¬ asrt t = 9 := by
  unfold ldok at h
  split at h <;> simp only [Bool.or_eq_true, beq_iff_eq] at h <;> (intro q; unfold asrt at q; split at q <;> simp_all)
/-- what a store into an array's cell leaves -/
theorem g_store {x i : Nat} {w : Value} {G G' : mG} {H H' : Heap} {cell : Cell} (hR : Rep D Sta.heap G H) (h9 : ¬ asrt (tg G x) = 9) (hmut : cst (tg G x) = false) (hp : pv G (asrt (tg G x)) x i w = some G') (hok : cOK D G x cell) (hlt : i < ln G x)
    (h1 : H'[Wra D x]? = some (cell.setSlot i (Wtv D w))) (h2 : H'.size = H.size) (h3 : ∀ q, q ≠ Wra D x → H'[q]? = H[q]?) : Rep D Sta.heap G' H' := hR.putA h9 hmut hp hok hlt h1 h2 h3
theorem locs_add {locs : List Loc} {x i : Nat} (hx : 64 ≤ x) (hl : ∀ q ∈ locs, Ws0 D ≤ q.base) : ∀ q ∈ locs ++ [(⟨Wra D x, i⟩ : Loc)], Ws0 D ≤ q.base := by
  intro q hq
  rcases List.mem_append.mp hq with q1 | q1
  · exact hl q q1
  · rw [List.mem_singleton] at q1
    subst q1
    show Ws0 D ≤ Wra D x
    rw [Wra_hi hx]; omega
theorem W.aastN {H : Heap} {locs : List Loc} {cells slots : Nat} {cc : ByteArray} (hexec : p.tables.exec = Jvm.exec) (hb : c.code = cc) {a : Addr} {cell : Cell} {j : Int32} {k : Class} {comp : ClassId} {t : FieldType}
    (hcell : H[a]? = some cell) (hobj : ∀ q, cell.vm ≠ .statics q) (hknown : cell.vm ≠ .unknown) (hk : s.vm.classes[cell.cls]? = some k) (hkind : k.kind = .array comp t) (href : t.isReference = true)
    (hin : ¬ j < 0 ∧ j.toNatClampNeg < cell.slots.size) {pc : Nat} {ls : Array Slot} {rest : List Value} (hdg : decode cc pc = .ok (.aastore, 1))
    (kk : ∀ H' : Heap, H'[a]? = some (cell.setSlot j.toNatClampNeg .null) → H'.size = H.size → (∀ q, q ≠ a → H'[q]? = H[q]?) → W p l e R s mi args below meth c H' (locs ++ [⟨a, j.toNatClampNeg⟩]) cells slots Q (F0 mi (pc + 1) ls rest)) :
    W p l e R s mi args below meth c H locs cells slots Q (F0 mi pc ls (.null :: .int j :: .ref a :: rest)) := by
  intro T hT X
  subst hT; subst hb
  obtain ⟨X', st⟩ := X.aastoreNullIn hexec hcell hobj hknown hk hkind href hin (g := F0 mi pc ls (.null :: .int j :: .ref a :: rest)) rfl rfl hdg
  have ha : a < T.heap.size := (Array.getElem?_eq_some_iff.mp hcell).1
  obtain ⟨t, a1, b1⟩ := kk (T.setCell a (cell.setSlot j.toNatClampNeg .null)).heap (by simp [State.setCell, ha]) (by simp [State.setCell]) (fun q hq => by simp [State.setCell, Array.getElem?_setIfInBounds, Ne.symm hq]) _ rfl X'
  exact ⟨t, st t a1, b1⟩
theorem zv_default {ty : FieldType} (h : ¬ srt ty = 9) : defaultValue ty = Wtv D (zv (srt ty)) := by
  cases ty <;> first | rfl | exact absurd rfl h
/-- a new object -/
theorem g_new {m pc x a : Nat} {r : List Value} {G : mG} {H : Heap} {locs : List Loc} {ls : Array Slot} (hB : BT Sta) (hBC : BC D Sta) (hC : Ctx D Sta p e s mi meth c m) (ha : 1 ≤ a ∧ a ≤ 21) (hcl : CLw (mOw m, x, cNm a)) (hR : Rep D Sta.heap G H) (hn0 : n0 ≤ nx G ∧ u0 ≤ us G)
    (hrm : nx G + 1 - n0 ≤ R.cells ∧ us G + cSz a - u0 ≤ R.slots) (hdec : decode (mCod m) pc = .ok (.new x, 3))
    (hk : ∀ H' : Heap, Rep D Sta.heap (al G a 0 (cSz a)) H' → W p l e R s mi args below meth c H' locs (nx G + 1 - n0) (us G + cSz a - u0) Q (F0 mi (pc + 3) ls (Wtv D (.ref (nx G)) :: r))) :
    W p l e R s mi args below meth c H locs (nx G - n0) (us G - u0) Q (F0 mi pc ls r) := by
  obtain ⟨hx, hb, hml, hr, hown, hlocks, hW, hnm, htab, hs0, hs0', hfro, htr, hD⟩ := id hC
  have hts : ∀ w ∈ lw_all, w.before args s = true := hC.hts hB
  have hla : laid a = true := by
    unfold laid
    simp only [Bool.or_eq_true, Bool.and_eq_true, decide_eq_true_eq, beq_iff_eq]
    exact Or.inl ha
  have hKn := hC.kn hBC hla
  have hins : Cond.instantiable (cNm a) (cSz a) ∈ lw_all ∧ Cond.initialized (cNm a) ∈ lw_all := by
    obtain ⟨h1, h2⟩ := ha
    match a, h1, h2 with
    | 0, h, _ => exact absurd h (by omega)
    | 1, _, _ => exact ⟨ci1, cj1⟩
    | 2, _, _ => exact ⟨ci2, cj2⟩
    | 3, _, _ => exact ⟨ci3, cj3⟩
    | 4, _, _ => exact ⟨ci4, cj4⟩
    | 5, _, _ => exact ⟨ci5, cj5⟩
    | 6, _, _ => exact ⟨ci6, cj6⟩
    | 7, _, _ => exact ⟨ci7, cj7⟩
    | 8, _, _ => exact ⟨ci8, cj8⟩
    | 9, _, _ => exact ⟨ci9, cj9⟩
    | 10, _, _ => exact ⟨ci10, cj10⟩
    | 11, _, _ => exact ⟨ci11, cj11⟩
    | 12, _, _ => exact ⟨ci12, cj12⟩
    | 13, _, _ => exact ⟨ci13, cj13⟩
    | 14, _, _ => exact ⟨ci14, cj14⟩
    | 15, _, _ => exact ⟨ci15, cj15⟩
    | 16, _, _ => exact ⟨ci16, cj16⟩
    | 17, _, _ => exact ⟨ci17, cj17⟩
    | 18, _, _ => exact ⟨ci18, cj18⟩
    | 19, _, _ => exact ⟨ci19, cj19⟩
    | 20, _, _ => exact ⟨ci20, cj20⟩
    | 21, _, _ => exact ⟨ci21, cj21⟩
    | a + 22, _, h => exact absurd h (by omega)
  have hsz : H.size = Wra D (nx G) := by rw [Wra_hi hR.1, hR.2.1]
  have hfc : s.vm.findClass (cNm a) = some (WdC D a) := hKn.2.1
  refine W.newcK hx hb hown (hC.wd hB hcl rfl) (hts _ hins.1) (hts _ hins.2) rfl hdec (by omega) (by omega) hfc hsz (fun H' kC hkC h1 h2 h3 => ?_)
  have e1 : nx G - n0 + 1 = nx G + 1 - n0 := by omega
  have e2 : us G - u0 + cSz a = us G + cSz a - u0 := by omega
  rw [e1, e2]
  refine hk H' ?_
  have h26 : a < 26 := by omega
  refine hR.alloc (cell := blank (WdC D a) kC) (by rw [hsz]; exact h1) ?_ (by rw [h2, hsz]) (fun q hq => h3 q (by rw [← hsz]; exact hq))
  have h9 : asrt a = 9 := by
    have hz : ∀ a, a < 26 → asrt a = 9 := by decide
    exact hz a h26
  refine ⟨fun _ => rfl, (by intro q; cases q), rfl, (by rw [al_tg, if_pos rfl]; rfl), ?_, ?_⟩
  · rw [al_tg, if_pos rfl]
    intro _ k hk1
    rw [al_gv0]
    obtain ⟨ty, hty, hsrt⟩ := fty_ok a h26 k hk1
    obtain ⟨hS, -⟩ := hKn
    obtain ⟨cf, kf, fi, fd, hi, he⟩ := hS k hk1
    have h5 := (u_facts hfc hkC (u_lays hts (cw a hla) hk1) hi).2.2
    rw [(State.fieldFound?_type hi hty).2] at h5
    rw [← he, ← hsrt, ← zv_default (D := D) (by
      rw [hsrt]
      have hz : ∀ a, a < 26 → ∀ k, k < cN a → ¬ cS a k = 9 := by decide +kernel
      exact hz a h26 k hk1)]
    exact k2_blank h5
  · rw [al_tg, if_pos rfl]
    intro q; exact absurd h9 q
/-- a new array, of any class -/
theorem g_newarr {t N : Nat} {G : mG} {H H' : Heap} {cA : ClassId} (hR : Rep D Sta.heap G H) (h9 : ¬ asrt t = 9) (hcA : cA = WdC D t) (h1 : H' = H.push { cls := cA, slots := Array.replicate N (Wtv D (zv (asrt t))), vm := .none }) : Rep D Sta.heap (al G t N N) H' := by
  subst h1
  refine hR.alloc (cell := { cls := cA, slots := Array.replicate N (Wtv D (zv (asrt t))), vm := .none }) (by simp) ?_ (by simp) (fun q hq => by rw [Array.getElem?_push]; rw [if_neg (by omega)])
  refine ⟨fun _ => rfl, (by intro q; cases q), rfl, (by rw [al_tg, if_pos rfl]; exact hcA), ?_, ?_⟩
  · rw [al_tg, if_pos rfl]; intro q; exact absurd q h9
  · rw [al_tg, if_pos rfl, al_ln, if_pos rfl]
    intro _
    refine ⟨by simp, fun k hk => ?_⟩
    rw [al_gv0]
    simp [hk]
theorem ac_iff {x y : Nat} (hI : BI D) (h : acok x y = true) : Wra D x = Wra D y ↔ x = y := by
  constructor
  · intro hxy
    unfold acok at h
    simp only [Bool.or_eq_true, Bool.and_eq_true, beq_iff_eq, decide_eq_true_eq] at h
    rcases h with (((h | h) | h) | h) | h
    · exact h
    · rw [Wra_lo (by omega), Wra_lo (by omega)] at hxy
      exact hI.1 x y (by omega) (by omega) (by omega) (by omega) hxy
    · rw [Wra_lo (by omega), Wra_lo (by omega)] at hxy
      have h1 : x = 12 ∨ x = 13 := by omega
      have h2 : y = 12 ∨ y = 13 := by omega
      rcases h1 with rfl | rfl <;> rcases h2 with rfl | rfl
      · rfl
      · exact absurd hxy hI.2.1
      · exact absurd hxy.symm hI.2.1
      · rfl
    · rw [Wra_hi h.1] at hxy
      rcases h.2 with q | q
      · rw [Wra_hi q] at hxy; omega
      · rw [Wra_lo (by omega)] at hxy
        have := hI.2.2 y (by omega) (by omega)
        omega
    · rw [Wra_hi h.1.1, Wra_lo (by omega)] at hxy
      have := hI.2.2 x (by omega) (by omega)
      omega
  · intro q; rw [q]
theorem g_gets {H : Heap} {locs : List Loc} {cells slots : Nat} {ls : Array Slot} {rest : List Value} {cc : ByteArray} {pc : Nat} (hexec : p.tables.exec = Jvm.exec) (hb : c.code = cc) {C n d own : String} {v : Value} {index : Nat} {A : Nat → Prop} (hZ : va_Z C n d v A s H) (hown : s.vm.findClass own = some mi.cls) (hlink : (Cond.fieldLink own index C n d).before args s = true) (hdg : decode cc pc = .ok (.getstatic index, 3))
    (kk : W p l e R s mi args below meth c H locs cells slots Q (F0 mi (pc + 3) ls (v :: rest))) : W p l e R s mi args below meth c H locs cells slots Q (F0 mi pc ls rest) := by
  obtain ⟨cf, kf, fi, f, a, cell, h1, h2, h3, h4, h5, h6, h7, h8⟩ := hZ
  exact W.gets hexec hb hown hlink h1 h2 h3 h4 h5 (fun e => by rw [e] at h6; cases h6) h7 rfl hdg kk
theorem g_ldcwS {H : Heap} {locs : List Loc} {cells slots : Nat} {ls : Array Slot} {rest : List Value} {cc : ByteArray} {pc : Nat} (hexec : p.tables.exec = Jvm.exec) (hb : c.code = cc) {own tx : String} {index q : Nat} (hown : s.vm.findClass own = some mi.cls) (hZ : vk_R own index tx q s) (hdg : decode cc pc = .ok (.ldc_w index, 3))
    (k : W p l e R s mi args below meth c H locs cells slots Q (F0 mi (pc + 3) ls (.ref q :: rest))) : W p l e R s mi args below meth c H locs cells slots Q (F0 mi pc ls rest) := by
  intro T hT X
  obtain ⟨t, a1, b1⟩ := k T hT X
  subst hb
  refine ⟨t, ?_, b1⟩
  obtain ⟨k, cf, i, a', hk, hcf, hcp, -, hr, hev'⟩ := Cond.stringRef_spec hown hZ.1
  cases hZ.2.symm.trans hev'
  obtain ⟨k', hk', he⟩ := X.warmed.alike.2.2 _ _ hk
  have hr' : k'.resolved[index]? = some (some (.string q)) := by
    rcases X.warmed.entry hk hk' index with h | ⟨h, -⟩
    · rw [h]; exact hr
    · rw [hr] at h; cases h
  jvm_step X.here [hexec, hdg, ldc_w.wp_string (e := e) (s := T) (f := F0 mi pc ls rest) X.here.top hk' (by rw [he]; exact hcf) hcp hr']
  exact a1
/-- the class of an object's cell -/
theorem clsAt {m x : Nat} {G : mG} {H : Heap} (hBC : BC D Sta) (hBA : BA D Sta) (hC : Ctx D Sta p e s mi meth c m) (hR : Rep D Sta.heap G H) (hx : (1 ≤ tg G x ∧ tg G x ≤ 25) ∨ tg G x = 56) : ∃ cell, H[Wra D x]? = some cell ∧ cell.vm.isStatics = false ∧ cell.cls = WdC D (tg G x) ∧ s.vm.findClass (cNm (tg G x)) = some cell.cls := by
  obtain ⟨-, cell, hcell, k1, k2, k3, k4, -⟩ := hR.2.2.1 x (by omega)
  refine ⟨cell, hcell, k3, k4, ?_⟩
  rw [k4]
  have hal := hC.2.2.2.2.2.2.1.alike
  rcases hx with hx | hx
  · by_cases h25 : tg G x = 25
    · rw [h25, hal.findClass]; exact hBC.2.2.1
    · by_cases h22 : tg G x = 22 ∨ tg G x = 23
      · rw [hal.findClass]; exact (hBC.2.1 _ h22).1
      · have hla : laid (tg G x) = true := by
          unfold laid
          simp only [Bool.or_eq_true, Bool.and_eq_true, decide_eq_true_eq, beq_iff_eq]
          omega
        exact (hC.kn hBC hla).2.1
  · rw [hx, hal.findClass]; exact (hBA.1 56 (by decide) (by decide)).1
end arrays
theorem lKS_lt : ∀ q ∈ lKS, ∀ a, q.2.2.1 = a → a < 64 := by
  have h : ∀ q ∈ lKS, q.2.2.1 < 64 := by decide +kernel
  intro q hq a ha
  rw [← ha]; exact h q hq
theorem clw110 : Cond.classLink (cNm 34) 110 "[Ljava/lang/Object;" ∈ lw_tbl := lw_at lw_m5 68 rfl
theorem aov0 : Cond.arrayOver (.object "java/lang/Object") ∈ lw_tbl := lw_at lw_m1 141 rfl
theorem aov1 : Cond.arrayOver (.object "PhraseDesk$Node") ∈ lw_tbl := lw_at lw_m1 59 rfl
theorem aov2 : Cond.arrayOver (.object "PhraseDesk$Op") ∈ lw_tbl := lw_at lw_m1 61 rfl
theorem aov3 : Cond.arrayOver (.object "PhraseDesk$Value") ∈ lw_tbl := lw_at lw_m2 218 rfl
theorem arrw : ∀ a, 50 ≤ a → a < 56 → Cond.arrayClass (aty a) ∈ lw_tbl := by
  intro a h1 h2
  have h : a = 50 ∨ a = 51 ∨ a = 52 ∨ a = 53 ∨ a = 54 ∨ a = 55 := by omega
  rcases h with rfl | rfl | rfl | rfl | rfl | rfl
  · exact lw_at lw_m1 110 rfl
  · exact lw_at lw_m3 17 rfl
  · exact lw_at lw_m1 109 rfl
  · exact lw_at lw_m1 215 rfl
  · exact lw_at lw_m8 18 rfl
  · exact lw_at lw_m8 19 rfl
theorem casN : ∀ u, 9 ≤ u → u ≤ 19 → Cond.castable (cNm u) (cNm 39) ∈ lw_tbl := by
  intro u h1 h2
  have h : u = 9 ∨ u = 10 ∨ u = 11 ∨ u = 12 ∨ u = 13 ∨ u = 14 ∨ u = 15 ∨ u = 16 ∨ u = 17 ∨ u = 18 ∨ u = 19 := by omega
  rcases h with rfl | rfl | rfl | rfl | rfl | rfl | rfl | rfl | rfl | rfl | rfl
  · exact lw_at lw_m6 32 rfl
  · exact lw_at lw_m6 51 rfl
  · exact lw_at lw_m6 80 rfl
  · exact lw_at lw_m6 72 rfl
  · exact lw_at lw_m6 8 rfl
  · exact lw_at lw_m6 87 rfl
  · exact lw_at lw_m6 64 rfl
  · exact lw_at lw_m6 43 rfl
  · exact lw_at lw_m6 16 rfl
  · exact lw_at lw_m6 24 rfl
  · exact lw_at lw_m5 239 rfl
theorem casO : ∀ u, 3 ≤ u → u ≤ 19 → Cond.castable (cNm u) (cNm 27) ∈ lw_tbl := by
  intro u h1 h2
  have h : u = 3 ∨ u = 4 ∨ u = 5 ∨ u = 6 ∨ u = 7 ∨ u = 8 ∨ u = 9 ∨ u = 10 ∨ u = 11 ∨ u = 12 ∨ u = 13 ∨ u = 14 ∨ u = 15 ∨ u = 16 ∨ u = 17 ∨ u = 18 ∨ u = 19 := by omega
  rcases h with rfl | rfl | rfl | rfl | rfl | rfl | rfl | rfl | rfl | rfl | rfl | rfl | rfl | rfl | rfl | rfl | rfl
  · exact lw_at lw_m9 182 rfl
  · exact lw_at lw_m9 205 rfl
  · exact lw_at lw_m9 206 rfl
  · exact lw_at lw_m9 207 rfl
  · exact lw_at lw_m9 208 rfl
  · exact lw_at lw_m9 209 rfl
  · exact lw_at lw_m9 198 rfl
  · exact lw_at lw_m9 194 rfl
  · exact lw_at lw_m9 196 rfl
  · exact lw_at lw_m9 197 rfl
  · exact lw_at lw_m9 195 rfl
  · exact lw_at lw_m9 199 rfl
  · exact lw_at lw_m9 201 rfl
  · exact lw_at lw_m9 200 rfl
  · exact lw_at lw_m9 203 rfl
  · exact lw_at lw_m9 202 rfl
  · exact lw_at lw_m9 204 rfl
theorem gcw0 : Cond.methodLink (cNm 34) 86 ⟨"java/lang/Object", "getClass", "()Ljava/lang/Class;"⟩ ∈ lw_tbl := lw_at lw_m5 35 rfl
theorem gcw1 : Cond.declares ⟨"java/lang/Object", "getClass", "()Ljava/lang/Class;"⟩ ∈ lw_tbl := lw_at lw_m9 185 rfl
theorem gcw2 : Cond.selects (cNm 56) ⟨"java/lang/Object", "getClass", "()Ljava/lang/Class;"⟩ ⟨"java/lang/Object", "getClass", "()Ljava/lang/Class;"⟩ ∈ lw_tbl := lw_at lw_m9 184 rfl
theorem gcw3 : Cond.instanceMethod ⟨"java/lang/Object", "getClass", "()Ljava/lang/Class;"⟩ ∈ lw_tbl := lw_at lw_m5 36 rfl
theorem gcw4 : Cond.native ⟨"java/lang/Object", "getClass", "()Ljava/lang/Class;"⟩ ∈ lw_tbl := lw_at lw_m5 64 rfl
theorem oiw : ∀ q ∈ lO, Cond.methodLink (cNm q.1) q.2 objectInit ∈ lw_tbl := List.forall_mem_cons.mpr ⟨lw_at lw_m5 99 rfl, List.forall_mem_cons.mpr ⟨lw_at lw_m1 49 rfl, List.forall_mem_cons.mpr ⟨lw_at lw_m7 19 rfl, List.forall_mem_cons.mpr ⟨lw_at lw_m1 122 rfl, List.forall_mem_cons.mpr ⟨lw_at lw_m7 76 rfl, List.forall_mem_cons.mpr ⟨lw_at lw_m1 57 rfl, List.forall_mem_cons.mpr ⟨lw_at lw_m2 223 rfl, List.forall_mem_cons.mpr ⟨lw_at lw_m4 90 rfl, List.forall_mem_cons.mpr ⟨lw_at lw_m5 199 rfl, List.forall_mem_cons.mpr ⟨lw_at lw_m4 43 rfl, List.forall_mem_cons.mpr ⟨lw_at lw_m3 230 rfl, fun _ h => absurd h List.not_mem_nil⟩⟩⟩⟩⟩⟩⟩⟩⟩⟩⟩
theorem oiw1 : Cond.instanceMethod objectInit ∈ lw_tbl := lw_at lw_m1 50 rfl
theorem oiw2 : Cond.code objectInit ⟨#[0xb1]⟩ 1 none ∈ lw_tbl := lw_at lw_m1 51 rfl
theorem mminL0 : Cond.methodLink (cNm 34) 304 Lib.Math.min.name ∈ lw_tbl := lw_at lw_m2 17 rfl
theorem mminS : Cond.static Lib.Math.min.name ∈ lw_tbl := lw_at lw_m2 18 rfl
theorem mminC : Cond.code Lib.Math.min.name Lib.Math.min.code 2 (some .int) ∈ lw_tbl := lw_at lw_m2 19 rfl
theorem mmaxL0 : Cond.methodLink (cNm 20) 79 Lib.Math.max.name ∈ lw_tbl := lw_at lw_m5 70 rfl
theorem mmaxL1 : Cond.methodLink (cNm 33) 194 Lib.Math.max.name ∈ lw_tbl := lw_at lw_m1 239 rfl
theorem mmaxS : Cond.static Lib.Math.max.name ∈ lw_tbl := lw_at lw_m2 0 rfl
theorem mmaxC : Cond.code Lib.Math.max.name Lib.Math.max.code 2 (some .int) ∈ lw_tbl := lw_at lw_m2 1 rfl
theorem acL0 : Cond.methodLink (cNm 3) 29 arraycopyName ∈ lw_tbl := lw_at lw_m6 42 rfl
theorem acL1 : Cond.methodLink (cNm 34) 150 arraycopyName ∈ lw_tbl := lw_at lw_m2 20 rfl
theorem acN : Cond.native arraycopyName ∈ lw_tbl := lw_at lw_m2 22 rfl
theorem acS : Cond.static arraycopyName ∈ lw_tbl := lw_at lw_m2 21 rfl
theorem acI : Cond.initialized "java/lang/System" ∈ lw_tbl := lw_at lw_m1 17 rfl
