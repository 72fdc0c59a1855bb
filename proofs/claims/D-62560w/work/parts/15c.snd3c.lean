/-! SOUNDNESS: new boolean[13][5] -/
set_option maxRecDepth 100000
theorem aovB : Cond.arrayOver (.array .boolean) ∈ lw_tbl := lw_at lw_m2 216 rfl
theorem clw35 : Cond.classLink (cNm 1) 35 "[[Z" ∈ lw_tbl := lw_at lw_m2 215 rfl
def mrow (cr : ClassId) : Cell := { cls := cr, slots := Array.replicate 5 (.int 0) }
def mout (co : ClassId) (a : Nat) : Nat → Cell
  | 0 => { cls := co, slots := Array.replicate 13 .null }
  | n + 1 => (mout co a n).setSlot n (.ref (a + 1 + n))
/-- the machine with the outer array and its first n rows -/
def mS (co cr : ClassId) (S : State) : Nat → State
  | 0 => S.pushCell (mout co S.heap.size 0)
  | n + 1 => ((mS co cr S n).pushCell (mrow cr)).setCell S.heap.size (mout co S.heap.size (n + 1))
theorem mout_facts (co : ClassId) (a : Nat) : ∀ n, (mout co a n).cls = co ∧ (mout co a n).vm = .none ∧ (mout co a n).slots.size = 13 ∧ (n ≤ 13 → ∀ k, k < 13 → (mout co a n).slots[k]? = some (if k < n then .ref (a + 1 + k) else .null)) := by
  intro n
  induction n with
  | zero => exact ⟨rfl, rfl, by simp [mout], fun _ k hk => by simp [mout, hk]⟩
  | succ n ih =>
    obtain ⟨h1, h2, h3, h4⟩ := ih
    refine ⟨h1, h2, by show ((mout co a n).setSlot n _).slots.size = 13; rw [setSlot_size]; exact h3, fun hn k hk => ?_⟩
    show ((mout co a n).setSlot n (.ref (a + 1 + n))).slots[k]? = _
    by_cases hkn : k = n
    · subst hkn
      rw [setSlot_self (by rw [h3]; exact hk), if_pos (by omega)]
    · rw [setSlot_other hkn, h4 (by omega) k hk]
      by_cases h : k < n
      · rw [if_pos h, if_pos (by omega)]
      · rw [if_neg h, if_neg (by omega)]
theorem mS_facts (co cr : ClassId) (S : State) : ∀ n, (mS co cr S n).heap.size = S.heap.size + 1 + n ∧ (mS co cr S n).heap[S.heap.size]? = some (mout co S.heap.size n) ∧ (∀ i, i < n → (mS co cr S n).heap[S.heap.size + 1 + i]? = some (mrow cr)) ∧ (∀ q, q < S.heap.size → (mS co cr S n).heap[q]? = S.heap[q]?) ∧ (mS co cr S n).vm = S.vm ∧ (mS co cr S n).slotsUsed = S.slotsUsed + 13 + 5 * n := by
  intro n
  induction n with
  | zero =>
    refine ⟨by simp [mS, State.pushCell], by simp [mS, State.pushCell], fun i hi => absurd hi (Nat.not_lt_zero _), fun q hq => ?_, rfl, by simp [mS, State.pushCell, mout]⟩
    show (S.heap.push _)[q]? = _
    rw [Array.getElem?_push, if_neg (by omega)]
  | succ n ih =>
    obtain ⟨h1, h2, h3, h4, h5, h6⟩ := ih
    have e : (mS co cr S (n + 1)).heap = ((mS co cr S n).heap.push (mrow cr)).setIfInBounds S.heap.size (mout co S.heap.size (n + 1)) := rfl
    refine ⟨by rw [e]; simp [h1]; omega, by rw [e, Array.getElem?_setIfInBounds, if_pos rfl, if_pos (by simp [h1]; omega)], fun i hi => ?_, fun q hq => ?_, h5, ?_⟩
    · rw [e, Array.getElem?_setIfInBounds, if_neg (by omega), Array.getElem?_push]
      by_cases hin : i = n
      · subst hin
        rw [if_pos (by rw [h1])]
      · rw [if_neg (by rw [h1]; omega)]
        exact h3 i (by omega)
    · rw [e, Array.getElem?_setIfInBounds, if_neg (by omega), Array.getElem?_push, if_neg (by rw [h1]; omega)]
      exact h4 q hq
    · show (mS co cr S n).slotsUsed + (mrow cr).slots.size = _
      rw [h6]
      simp [mrow]
      omega
theorem mS_setTop (co cr : ClassId) (S : State) (f : JFrame) : ∀ n, mS co cr (S.setTop f) n = (mS co cr S n).setTop f := by
  intro n
  induction n with
  | zero => rfl
  | succ n ih =>
    show ((mS co cr (S.setTop f) n).pushCell (mrow cr)).setCell S.heap.size (mout co S.heap.size (n + 1)) = _
    rw [ih]
    rfl
section wpm
variable {E : CtlPost} {e : Env} {d : Bool} {acts : List Action} {S : State}
theorem mk_row {cr x : ClassId} {kr : Class} (hk : S.vm.classes[cr]? = some kr) (hkind : kr.kind = .array x .boolean) (hl : ¬ 5 > e.platform.arrayLengthLimit) (hh : ¬ 5 * componentBytes .boolean > e.platform.maxHeapBytes)
    (hc : S.heap.size < e.platform.maxCells) (hs : S.slotsUsed + 5 ≤ e.platform.maxSlots) {Q : Addr → Pre} (hq : ∀ acts', Q S.heap.size d acts' (S.pushCell (mrow cr))) :
    wp (Op.multianewarray.make cr [5]) Q E e d acts S := by
  have h5 : ¬ ((5 : Int32) < 0) := by decide
  rw [Op.multianewarray.make]
  simp only [wp_bind', W.ite, h5, if_false, wp_pure', W.theClass, hk, hkind, Option.some.injEq, exists_eq_left']
  exact W.newArray_of hk hkind hl hh hc hs rfl hq
theorem mk_grid {co cr x : ClassId} {ko kr : Class} (hko : S.vm.classes[co]? = some ko) (hkindo : ko.kind = .array cr (.array .boolean)) (hk : S.vm.classes[cr]? = some kr) (hkind : kr.kind = .array x .boolean)
    (hl : ¬ 13 > e.platform.arrayLengthLimit) (hh : ¬ 13 * componentBytes (.array .boolean) > e.platform.maxHeapBytes) (hh2 : ¬ 5 * componentBytes .boolean > e.platform.maxHeapBytes)
    (hc : S.heap.size + 14 ≤ e.platform.maxCells) (hs : S.slotsUsed + 78 ≤ e.platform.maxSlots) {Q : Addr → Pre} (hq : ∀ d' acts', Q S.heap.size d' acts' (mS co cr S 13)) :
    wp (Op.multianewarray.make co [13, 5]) Q E e d acts S := by
  have h13 : ¬ ((13 : Int32) < 0) := by decide
  have hz : ((13 : Int32) == 0) = false := by decide
  rw [Op.multianewarray.make]
  simp only [wp_bind', W.ite, h13, if_false, wp_pure', W.theClass, hko, hkindo, Option.some.injEq, exists_eq_left']
  refine W.newArray_of hko hkindo hl hh (by omega) (by show S.slotsUsed + 13 ≤ _; omega) rfl (fun acts1 => ?_)
  simp only [hz, Bool.false_eq_true, if_false, wp_bind', wp_pure']
  rw [Std.Legacy.Range.forIn_eq_forIn_range']
  show wp (forIn (List.range' 0 13 1) PUnit.unit _) _ E e d acts1 _
  refine wp_forIn_inv (fun rest s' => ∃ i, i ≤ 13 ∧ rest = List.range' i (13 - i) ∧ s' = mS co cr S i) _ _ ⟨0, by omega, rfl, rfl⟩ ?_ ?_
  · rintro y rest s' d' acts' Q' ⟨i, hi, hlst, rfl⟩ hnext
    have hlt : i < 13 := by
      rcases Nat.lt_or_ge i 13 with h | h
      · exact h
      · rw [show 13 - i = 0 from by omega] at hlst; simp at hlst
    obtain ⟨rfl, hrest⟩ : y = i ∧ rest = List.range' (i + 1) (13 - (i + 1)) := by
      rw [show 13 - i = (13 - (i + 1)) + 1 from by omega, List.range'_succ] at hlst
      exact ⟨(List.cons.inj hlst).1, (List.cons.inj hlst).2⟩
    obtain ⟨f1, f2, f3, f4, f5, f6⟩ := mS_facts co cr S y
    obtain ⟨o1, o2, o3, -⟩ := mout_facts co S.heap.size y
    simp only [wp_bind']
    refine mk_row (by rw [f5]; exact hk) hkind (by omega) hh2 (by rw [f1]; omega) (by rw [f6]; omega) (fun acts2 => ?_)
    simp only [wp_bind', W.writeLoc, wp_pure']
    refine ⟨mout co S.heap.size y, ?_, by rw [o2]; simp, by rw [o3]; exact hlt, ?_, hnext _ _ _ ⟨y + 1, hlt, hrest, ?_⟩⟩
    · show ((mS co cr S y).heap.push (mrow cr))[S.heap.size]? = _
      rw [Array.getElem?_push, if_neg (by rw [f1]; omega)]
      exact f2
    · rw [o1, o2]
      simp [State.fitsSlot, State.slotType?, f5, hko, hkindo, fits]
    · rw [f1]; rfl
  · rintro s' d' acts' ⟨i, hi, hlst, rfl⟩
    have hi13 : i = 13 := by
      rcases Nat.lt_or_ge i 13 with h | h
      · rw [show 13 - i = (13 - (i + 1)) + 1 from by omega, List.range'_succ] at hlst; cases hlst
      · omega
    subst hi13
    simp only [wp_pure']
    exact hq _ _
end wpm
section stm
variable {p : Program} {l : Launch} {e : Env} {R : Room} {s : State} {mi : MethodId} {args : Array Value} {below : List Frame} {meth : Method} {c : Code} {T : State} {locs : List Loc} {cells slots : Nat}
theorem mS_stand (X : Stand p l e R s mi args below meth c T locs cells slots) (co cr : ClassId) : ∀ n, Stand p l e R s mi args below meth c (mS co cr T n) (locs ++ (List.range n).map fun j => ⟨T.heap.size, j⟩) (cells + 1 + n) (slots + 13 + 5 * n) := by
  intro n
  induction n with
  | zero =>
    have h := X.pushed (mout co T.heap.size 0)
    rw [(mout_facts co T.heap.size 0).2.2.1] at h
    simpa [mS] using h
  | succ n ih =>
    obtain ⟨f1, f2, -⟩ := mS_facts co cr T n
    have hcell : ((mS co cr T n).pushCell (mrow cr)).heap[T.heap.size]? = some (mout co T.heap.size n) := by
      show ((mS co cr T n).heap.push (mrow cr))[T.heap.size]? = _
      rw [Array.getElem?_push, if_neg (by rw [f1]; omega)]
      exact f2
    have h := (ih.pushed (mrow cr)).stored hcell n (.ref (T.heap.size + 1 + n))
    have e1 : (mrow cr).slots.size = 5 := by simp [mrow]
    rw [e1] at h
    have e2 : (locs ++ (List.range (n + 1)).map fun j => (⟨T.heap.size, j⟩ : Loc)) = (locs ++ (List.range n).map fun j => (⟨T.heap.size, j⟩ : Loc)) ++ [⟨T.heap.size, n⟩] := by simp [List.range_succ, List.append_assoc]
    have e3 : slots + 13 + 5 * (n + 1) = slots + 13 + 5 * n + 5 := by omega
    rw [e2, e3]
    exact h
theorem st_multi {D : mW} {Sta : State} {m : Nat} (hB : BT Sta) (hC : Ctx D Sta p e s mi meth c m) (hm1 : mOw m = 1) (X : Stand p l e R s mi args below meth c T locs cells slots)
    {g : JFrame} (hg : g.method = mi) (hdg : decode c.code g.pc = .ok (.multianewarray 35 2, 4)) {rest : List Value} (hstack : g.stack = .int 5 :: .int 13 :: rest) (hcells : cells + 14 ≤ R.cells) (hslots : slots + 78 ≤ R.slots) :
    ∃ (vm₁ : Vm) (co cr : ClassId), s.WarmedH vm₁ ∧ s.vm.findClass "[[Z" = some co ∧ s.vm.findClass "[Z" = some cr ∧
      Stand p l e R s mi args below meth c (mS co cr (T.setVm vm₁) 13) (locs ++ (List.range 13).map fun j => ⟨T.heap.size, j⟩) (cells + 14) (slots + 78) ∧
      ∀ target, Steps p.tables e below ((mS co cr (T.setVm vm₁) 13).setTop { g with pc := g.pc + 4, stack := .ref T.heap.size :: rest }) target → Steps p.tables e below (T.setTop g) target := by
  obtain ⟨hexec, hb, hml, hr, hown, hlocks, hW, hnm, htab, hs0, hs0', hfro, htr, hD⟩ := id hC
  subst hg
  have hpl : e.platform.magicAccessors = ({} : Platform).magicAccessors := by rw [X.admits.platform]
  obtain ⟨A, hA⟩ := hB _ aovB
  obtain ⟨cr, co, ko, hcr0, -, hko0, hkindo0, hco0⟩ := arrayOverA_spec hA
  obtain ⟨A2, hA2⟩ := hB _ (arrw 51 (by decide) (by decide))
  obtain ⟨cr', kr0, x, hcr1, hkr0, hkindr0⟩ := Cond.arrayClass_spec hA2
  have ecr : cr' = cr := Option.some.inj (hcr1.symm.trans hcr0)
  subst ecr
  have hco : s.vm.findClass "[[Z" = some co := by rw [hW.alike.findClass]; exact hco0
  have hcr : s.vm.findClass "[Z" = some cr' := by rw [hW.alike.findClass]; exact hcr0
  have hlink : (Cond.classLink (cNm 1) 35 "[[Z").before args s = true := hC.wd hB clw35 rfl
  rw [hm1] at hown
  obtain ⟨c0, hfc0, hcl⟩ := Cond.classLink_spec hown hlink e.platform hpl
  cases hco.symm.trans hfc0
  obtain ⟨hg₁, hwarm₁, hready₁⟩ := State.classEntry (e := e) X.warmed hcl
  generalize T.vm.noted g.method.cls 35 (.cls co) = vm₁ at hg₁ hwarm₁ hready₁
  have hal : Sta.vm.Alike vm₁ := hW.alike.trans hwarm₁.alike
  obtain ⟨ko₁, hko₁, heo⟩ := hal.2.2 _ _ hko0
  obtain ⟨kr₁, hkr₁, her⟩ := hal.2.2 _ _ hkr0
  have X₁ := X.noted hwarm₁
  obtain ⟨hr1, hr2⟩ := X.roomAbove hcells hslots
  have XF := mS_stand X₁ co cr' 13
  refine ⟨vm₁, co, cr', hwarm₁, hco, hcr, XF, fun target hrest => ?_⟩
  have hl1 : ¬ 13 > e.platform.arrayLengthLimit := by rw [Launch.admits_arrayLengthLimit X.admits]; omega
  have hh1 : ¬ 13 * componentBytes (.array .boolean) > e.platform.maxHeapBytes := by
    rw [Launch.admits_maxHeapBytes X.admits]; show ¬ 13 * 4 > 536870912; omega
  have hh2 : ¬ 5 * componentBytes .boolean > e.platform.maxHeapBytes := by
    rw [Launch.admits_maxHeapBytes X.admits]; show ¬ 5 * 1 > 536870912; omega
  jvm_step X.here [hexec, hdg]
  simp only [Op.multianewarray.sem, wp_bind', W.resolveClassAt_links (State.method?_setTop g X.here.top) hg₁]
  rw [W.popN, if_neg (by decide)]
  refine ⟨g, State.topJava?_setTop' (s := T.setVm vm₁) g X.here.top, [.int 13, .int 5], rest, rfl, hstack, ?_⟩
  simp only [List.mapM_cons, List.mapM_nil, wp_bind', wp_pure']
  refine mk_grid (ko := ko₁) (kr := kr₁) (x := x) hko₁ (by rw [heo]; exact hkindo0) hkr₁ (by rw [her]; exact hkindr0) hl1 hh1 hh2 (by show T.heap.size + 14 ≤ _; omega) (by show T.slotsUsed + 78 ≤ _; omega) (fun d' acts' => ?_)
  have eS : ((T.setTop g).setVm vm₁).setTop { g with stack := rest } = (T.setVm vm₁).setTop { g with stack := rest } := by
    show ((T.setVm vm₁).setTop g).setTop _ = _
    rw [State.setTop_setTop]
  rw [eS, mS_setTop]
  simp only [wp_bind', W.mark, W.pushRef, State.topJava?_setTop' _ XF.here.top, Option.some.injEq, exists_eq_left', State.setTop_setTop, State.heap_setTop]
  intro acts
  simp [jvm, XF.here.top]
  exact hrest
end stm
/-! the pure grid -/
theorem gridr_facts (G0 : mG) : ∀ n, nx (gridr n G0) = nx G0 + n ∧ us (gridr n G0) = us G0 + 5 * n ∧ (∀ a, tg (gridr n G0) a = if nx G0 ≤ a ∧ a < nx G0 + n then 51 else tg G0 a) ∧ (∀ a, ln (gridr n G0) a = if nx G0 ≤ a ∧ a < nx G0 + n then 5 else ln G0 a) ∧ (∀ s a k, gv (gridr n G0) s a k = if nx G0 ≤ a ∧ a < nx G0 + n then zv s else gv G0 s a k) := by
  intro n
  induction n with
  | zero => exact ⟨rfl, rfl, fun a => by rw [if_neg (by omega)]; rfl, fun a => by rw [if_neg (by omega)]; rfl, fun s a k => by rw [if_neg (by omega)]; rfl⟩
  | succ n ih =>
    obtain ⟨h1, h2, h3, h4, h5⟩ := ih
    show nx (al (gridr n G0) 51 5 5) = _ ∧ us (al (gridr n G0) 51 5 5) = _ ∧ (∀ a, tg (al (gridr n G0) 51 5 5) a = _) ∧ (∀ a, ln (al (gridr n G0) 51 5 5) a = _) ∧ ∀ s a k, gv (al (gridr n G0) 51 5 5) s a k = _
    refine ⟨by rw [al_nx, h1]; omega, by rw [al_us, h2]; omega, fun a => ?_, fun a => ?_, fun s a k => ?_⟩
    · rw [al_tg, h1, h3]
      by_cases q : a = nx G0 + n
      · rw [if_pos q, if_pos (by omega)]
      · rw [if_neg q]
        by_cases q2 : nx G0 ≤ a ∧ a < nx G0 + n
        · rw [if_pos q2, if_pos (by omega)]
        · rw [if_neg q2, if_neg (by omega)]
    · rw [al_ln, h1, h4]
      by_cases q : a = nx G0 + n
      · rw [if_pos q, if_pos (by omega)]
      · rw [if_neg q]
        by_cases q2 : nx G0 ≤ a ∧ a < nx G0 + n
        · rw [if_pos q2, if_pos (by omega)]
        · rw [if_neg q2, if_neg (by omega)]
    · by_cases q : a = nx (gridr n G0)
      · subst q
        rw [al_gv0, if_pos (by omega)]
      · rw [al_gv q, h5]
        by_cases q2 : nx G0 ≤ a ∧ a < nx G0 + n
        · rw [if_pos q2, if_pos (by omega)]
        · rw [if_neg q2, if_neg (by omega)]
theorem grid_facts (G : mG) : nx (grid G) = nx G + 14 ∧ us (grid G) = us G + 78 ∧ (∀ a, tg (grid G) a = if a = nx G then 60 else if nx G < a ∧ a < nx G + 14 then 51 else tg G a) ∧ (∀ a, ln (grid G) a = if a = nx G then 13 else if nx G < a ∧ a < nx G + 14 then 5 else ln G a) ∧
    (∀ k, k < 13 → gP (grid G) (nx G) k = some (nx G + 1 + k)) ∧ (∀ s a k, a ≠ nx G → gv (grid G) s a k = if nx G < a ∧ a < nx G + 14 then zv s else gv G s a k) ∧ (∀ a k, a ≠ nx G → gP (grid G) a k = gP (gridr 13 (al G 60 13 13)) a k) ∧ (∀ a k, gI (grid G) a k = gI (gridr 13 (al G 60 13 13)) a k) := by
  obtain ⟨h1, h2, h3, h4, h5⟩ := gridr_facts (al G 60 13 13) 13
  rw [al_nx] at h1 h3 h4 h5
  rw [al_us] at h2
  have hp : ∀ a k, gP (grid G) a k = if a = nx G ∧ k < 13 then some (nx G + 1 + k) else gP (gridr 13 (al G 60 13 13)) a k := fun a k => rfl
  refine ⟨h1, by show us (gridr 13 (al G 60 13 13)) = _; rw [h2], fun a => ?_, fun a => ?_, fun k hk => by rw [hp, if_pos ⟨rfl, hk⟩], fun s a k ha => ?_, fun a k ha => by rw [hp, if_neg (fun q => ha q.1)], fun a k => rfl⟩
  · show tg (gridr 13 (al G 60 13 13)) a = _
    rw [h3, al_tg]
    by_cases q : a = nx G
    · rw [if_neg (by omega), if_pos q, if_pos q]
    · rw [if_neg q, if_neg q]
      by_cases q2 : nx G < a ∧ a < nx G + 14
      · rw [if_pos q2, if_pos (by omega)]
      · rw [if_neg q2, if_neg (by omega)]
  · show ln (gridr 13 (al G 60 13 13)) a = _
    rw [h4, al_ln]
    by_cases q : a = nx G
    · rw [if_neg (by omega), if_pos q, if_pos q]
    · rw [if_neg q, if_neg q]
      by_cases q2 : nx G < a ∧ a < nx G + 14
      · rw [if_pos q2, if_pos (by omega)]
      · rw [if_neg q2, if_neg (by omega)]
  · have hg : gv (grid G) s a k = gv (gridr 13 (al G 60 13 13)) s a k := by
      unfold gv
      split
      · rfl
      · rfl
      · rw [hp, if_neg (fun q => ha q.1)]
      · rfl
    rw [hg, h5, al_gv ha]
    by_cases q2 : nx G < a ∧ a < nx G + 14
    · rw [if_pos q2, if_pos (by omega)]
    · rw [if_neg q2, if_neg (by omega)]
theorem RepC.grid {G : mG} (h : RepC G) (hz : ∀ a, nx G ≤ a → tg G a = 0) : RepC (grid G) := by
  obtain ⟨h1, h2, h3, h4, h5, h6, h7, h8⟩ := grid_facts G
  refine ⟨?_, ?_, ?_, ?_⟩
  · intro a k ha
    rw [h3] at ha
    by_cases q : a = nx G
    · rw [if_pos q] at ha; cases ha
    · rw [if_neg q] at ha
      by_cases q2 : nx G < a ∧ a < nx G + 14
      · rw [if_pos q2] at ha; cases ha
      · rw [if_neg q2] at ha
        have := h6 0 a k q
        rw [if_neg q2] at this
        simp only [gv, Value.int.injEq] at this
        rw [this]; exact h.1 a k ha
  · intro a k b ha hb
    rw [h3] at ha
    by_cases q : a = nx G
    · rw [if_pos q] at ha; cases ha
    · rw [if_neg q] at ha
      by_cases q2 : nx G < a ∧ a < nx G + 14
      · rw [if_pos q2] at ha; cases ha
      · rw [if_neg q2] at ha
        have := h6 3 a k q
        rw [if_neg q2] at this
        simp only [gv, hb] at this
        have hgb : gP G a k = some b := by
          cases hq : gP G a k with
          | none => rw [hq] at this; cases this
          | some z => rw [hq] at this; simp only [rv, Value.ref.injEq] at this; rw [this]
        have h9 := h.2.1 a k b ha hgb
        have hb1 : b < nx G := by
          rcases Nat.lt_or_ge b (nx G) with z | z
          · exact z
          · rw [hz b z] at h9; omega
        rw [h3, if_neg (by omega), if_neg (by omega)]
        exact h9
  · intro a
    rw [h3]
    split
    · decide
    · split
      · decide
      · exact h.2.2.1 a
  · intro a ha1 ha2
    rw [h1] at ha2
    rw [h3]
    split
    · decide
    · split
      · decide
      · exact h.2.2.2 a ha1 (by omega)
section gm
variable {D : mW} {Sta : State} {p : Program} {l : Launch} {e : Env} {R : Room} {s : State} {mi : MethodId} {args : Array Value} {below : List Frame} {meth : Method} {c : Code} {n0 u0 : Nat} {Q : State → Prop}
theorem Rep.top0 {H0 : Heap} {G : mG} {H : Heap} (h : Rep D H0 G H) : ∀ a, nx G ≤ a → tg G a = 0 := by
  intro a ha
  by_cases q : tg G a = 0
  · exact q
  · exact absurd (h.2.2.1 a q).1 (by omega)
theorem g_multi {m d pc : Nat} {L : mL} {r : List Value} {G : mG} {H : Heap} {locs : List Loc} {ls : Array Slot} (hB : BT Sta) (hBA : BA D Sta) (hC : Ctx D Sta p e s mi meth c m) (hR : Rep D Sta.heap G H) (hRc : RepC G) (hL : lvR D (mMax m) L ls) (hl : ∀ q ∈ locs, Ws0 D ≤ q.base)
    (hm1 : mOw m = 1) (hn0 : n0 ≤ nx G ∧ u0 ≤ us G) (hrm : nx (grid G) - n0 ≤ R.cells ∧ us (grid G) - u0 ≤ R.slots) (hdec : decode (mCod m) pc = .ok (.multianewarray 35 2, 4))
    (hk : Gd D Sta p l e R s mi args below meth c n0 u0 Q (d, m, pc + 4, L, .ref (nx G) :: r, grid G)) :
    W p l e R s mi args below meth c H locs (nx G - n0) (us G - u0) Q (F0 mi pc ls (.int 5 :: .int 13 :: r.map (Wtv D))) := by
  obtain ⟨hx, hb, hml, hr, hown, hlocks, hW, hnm, htab, hs0, hs0', hfro, htr, hD⟩ := id hC
  obtain ⟨g1, g2, g3, g4, g5, g6, g7, g8⟩ := grid_facts G
  rw [g1, g2] at hrm
  intro T hT X
  obtain ⟨vm₁, co, cr, hw, hco, hcr, X', st⟩ := st_multi hB hC hm1 X (g := F0 mi pc ls (.int 5 :: .int 13 :: r.map (Wtv D))) rfl (by rw [hb]; exact hdec) rfl (by omega) (by omega)
  obtain ⟨f1, f2, f3, f4, -, -⟩ := mS_facts co cr (T.setVm vm₁) 13
  have eH : (T.setVm vm₁).heap = H := hT
  rw [eH] at f1 f2 f3 f4
  have hsz : H.size = Wra D (nx G) := by rw [Wra_hi hR.1, hR.2.1]
  have hsz2 : H.size = Ws0 D + (nx G - 64) := hR.2.1
  have h64 := hR.1
  have hco2 : co = WdC D 60 := by
    have := (hBA.1 60 (by decide) (by decide)).1
    rw [← hW.alike.findClass] at this
    exact Option.some.inj (hco.symm.trans this)
  have hcr2 : cr = WdC D 51 := by
    have := (hBA.1 51 (by decide) (by decide)).1
    rw [← hW.alike.findClass] at this
    exact Option.some.inj (hcr.symm.trans this)
  have hR' : Rep D Sta.heap (grid G) (mS co cr (T.setVm vm₁) 13).heap := by
    obtain ⟨r1, r2, r3, r4, r5⟩ := id hR
    refine ⟨by rw [g1]; omega, by rw [f1, g1]; omega, ?_, fun q hq => by rw [f4 q (by omega)]; exact r4 q hq, fun a ha => by rw [g3, if_neg (by omega), if_neg (by omega)]; exact r5 a ha⟩
    intro a ha
    rw [g1]
    rw [g3] at ha
    by_cases q : a = nx G
    · subst q
      refine ⟨by omega, mout co H.size 13, by rw [← hsz]; exact f2, ?_⟩
      obtain ⟨o1, o2, o3, o4⟩ := mout_facts co H.size 13
      refine ⟨fun _ => o2, by rw [o2]; simp, by rw [o2]; rfl, by rw [g3, if_pos rfl, o1]; exact hco2, ?_, ?_⟩
      · rw [g3, if_pos rfl]; intro z; cases z
      · rw [g3, if_pos rfl, g4, if_pos rfl]
        intro _
        refine ⟨o3, fun k hk => ?_⟩
        rw [o4 (Nat.le_refl _) k hk, if_pos hk]
        show _ = some (Wtv D (rv (gP (grid G) (nx G) k)))
        rw [g5 k hk]
        show _ = some (Value.ref (Wra D (nx G + 1 + k)))
        have e9 : Wra D (nx G + 1 + k) = H.size + 1 + k := by rw [Wra_hi (by omega)]; omega
        rw [e9]
    · rw [if_neg q] at ha
      by_cases q2 : nx G < a ∧ a < nx G + 14
      · refine ⟨by omega, mrow cr, ?_, ?_⟩
        · have := f3 (a - nx G - 1) (by omega)
          rw [Wra_hi (by omega)]
          have e : Ws0 D + (a - 64) = H.size + 1 + (a - nx G - 1) := by omega
          rw [e]; exact this
        · refine ⟨fun _ => rfl, (by intro z; cases z), rfl, by rw [g3, if_neg q, if_pos q2]; exact hcr2, ?_, ?_⟩
          · rw [g3, if_neg q, if_pos q2]; intro z; cases z
          · rw [g3, if_neg q, if_pos q2, g4, if_neg q, if_pos q2]
            intro _
            refine ⟨by simp [mrow], fun k hk => ?_⟩
            have e : asrt 51 = 4 := rfl
            rw [e, g6 4 a k q, if_pos q2]
            simp [mrow, hk]
            rfl
      · rw [if_neg q2] at ha
        obtain ⟨hlt, cell, hcell, k1, k2, k3, k4, k5, k6⟩ := r3 a ha
        refine ⟨by omega, cell, ?_, k1, k2, k3, ?_, ?_, ?_⟩
        · rw [f4 _ (Array.getElem?_eq_some_iff.mp hcell).1]; exact hcell
        · rw [g3, if_neg q, if_neg q2]; exact k4
        · rw [g3, if_neg q, if_neg q2]
          intro z k hk
          rw [g6 _ a k q, if_neg q2]; exact k5 z k hk
        · rw [g3, if_neg q, if_neg q2, g4, if_neg q, if_neg q2]
          intro z
          exact ⟨(k6 z).1, fun k hk => by rw [g6 _ a k q, if_neg q2]; exact (k6 z).2 k hk⟩
  have hz := hk (mS co cr (T.setVm vm₁) 13).heap (locs ++ (List.range 13).map fun j => ⟨T.heap.size, j⟩) ls hR' (hRc.grid hR.top0) hL (fun q hq => by
    rcases List.mem_append.mp hq with q1 | q1
    · exact hl q q1
    · obtain ⟨z, -, hz⟩ := List.mem_map.mp q1
      rw [← hz]
      show Ws0 D ≤ T.heap.size
      rw [hT, hsz2]; omega)
  dsimp only at hz
  rw [g1, g2] at hz
  have e1 : nx G + 14 - n0 = nx G - n0 + 14 := by omega
  have e2 : us G + 78 - u0 = us G - u0 + 78 := by omega
  rw [e1, e2] at hz
  obtain ⟨t, a1, b1⟩ := hz (mS co cr (T.setVm vm₁) 13) rfl X'
  refine ⟨t, st t ?_, b1⟩
  have e3 : Wtv D (.ref (nx G)) = .ref T.heap.size := by
    show Value.ref (Wra D (nx G)) = _
    rw [← hsz, hT]
  rw [← e3]
  exact a1
end gm
