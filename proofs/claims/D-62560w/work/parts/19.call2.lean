/-! SOUNDNESS: throws -/
set_option maxRecDepth 100000
theorem okw_mWd (m : Nat) : okw (mWd m) = true := by
  unfold mWd; split <;> rfl
section thr
variable {p : Program} {l : Launch} {e : Env} {R : Room} {s : State} {mi : MethodId} {args : Array Value} {below : List Frame} {meth : Method} {c : Code} {T : State} {locs : List Loc} {cells slots : Nat}
theorem zq_isRef {C n d : String} {A : Nat → Prop} (h : va_Zq C n d A s s.heap) : (Cond.isRef (.static C n d)).before args s = true := by
  have key : ∀ v, va_Z C n d v A s s.heap → (Term.static C n d).eval args s none [] s = some v := by
    rintro v ⟨cf, kf, fi, f, a, cell, h1, h2, h3, h4, h5, h6, h7, h8⟩
    simp [Term.eval, State.fieldNamed?, h1, h2, h4, h5, h6, h7]
  rcases h with h | ⟨t, h⟩
  · have := key _ h
    simp [Cond.before, Cond.holds, Cond.value, this]
  · have := key _ h
    simp [Cond.before, Cond.holds, Cond.value, this]
set_option maxHeartbeats 1000000 in
/-- the constructor of an exception, then athrow: the machine behind it, its heap known -/
theorem g_ctor (X : Stand p l e R s mi args below meth c T locs cells slots) (hexec : p.tables.exec = Jvm.exec) (htr : e.platform.stackTraces = false) {own cls : String} {names : List String} {ic : Nat}
    (hown : s.vm.findClass own = some mi.cls) (hcls : Bundle.fit cls = true) (hnames : ∀ n ∈ names, Bundle.fit n = true) (h : ∀ a ∈ Bundle.ownAtoms0 own ic cls names, a.before args s = true)
    (hlocs : ∀ x ∈ locs, ∀ cell, s.heap[x.base]? = some cell → cell.vm.isStatics = false)
    {a : Addr} {cX : ClassId} {kX : Class} (hfX : s.vm.findClass cls = some cX) (hkX : s.vm.classes[cX]? = some kX) (hcell : T.heap[a]? = some (freshCell cX kX)) (hnew : s.heap.size ≤ a)
    {g : JFrame} (hg : g.method = mi) (hsize : g.locals.size = c.maxLocals) (hlocked : g.locked = none) (hentered : g.entered = []) {rest : List Value} (hstack : g.stack = .ref a :: .ref a :: rest)
    (hd6 : decode c.code g.pc = .ok (.invokespecial ic, 3)) (hd9 : decode c.code (g.pc + 3) = .ok (.athrow, 1)) (hout : ∀ x ∈ c.exceptionTable.toList, covers x (g.pc + 3) = false)
    (hRf : names.length + 3 < R.frames) (hRl : 2 * g.monitorRoom + ((Value.ref a :: rest).map fun v => v.category).sum + (13 * (names.length + 1) + 41) ≤ R.locals) (hlocks : meth.locks = false) :
    ∃ (vm' : Vm) (cell' : Cell) (L : List Loc), Stand p l e R s mi args below meth c ((T.setVm vm').setCell a cell') (locs ++ L) cells slots ∧ (∀ q ∈ L, q.base = a) ∧ cell'.cls = cX ∧ cell'.vm = .none ∧
      Steps p.tables e below (T.setTop g) (((T.setVm vm').setCell a cell').setFrames (.throwing a :: below)) := by
  have howns : e.platform.frameOwnsMonitors = true := by rw [X.admits.platform]
  have hfin : e.platform.finalization = false := by rw [X.admits.platform]
  have hpl : e.platform.magicAccessors = ({} : Platform).magicAccessors := by rw [X.admits.platform]
  have at' : ∀ x, x ∈ Bundle.ownAtoms0 own ic cls names → x.holds args s none s [] = true := fun x hx => h x hx
  obtain ⟨K, Z, KL, LZ, Y⟩ := ThrowableC.of_atoms (args := args) howns hfin hpl (fun x hx => h x (by simp [Bundle.ownAtoms0, hx]))
  obtain ⟨P1, Ps, hlen, L1, hLs, hP1m, hlink1, hlink⟩ := Bundle.chain0 (args := args) hpl Y.init0 names cls hcls hnames (fun x hx => h x (by simp [Bundle.ownAtoms0, hx]))
  have hfound : s.vm.findClass cls = some P1.m.cls := findClass_of_methodNamed hP1m
  cases Option.some.inj (hfX.symm.trans hfound)
  obtain ⟨c1, kX', hc1, hk, hord, -, -, -⟩ := Cond.instantiable_spec (at' (.instantiable cls 6) (by simp [Bundle.ownAtoms0]))
  cases Option.some.inj (hc1.symm.trans hfound)
  cases Option.some.inj (hkX.symm.trans hk)
  have hsel : ∀ (y : MethodName) (r : MethodId), Cond.selects cls y y ∈ Bundle.ownAtoms0 own ic cls names → s.methodNamed? y = some r → (y.cls ≠ "java/lang/invoke/MethodHandle" ∧ y.cls ≠ "java/lang/invoke/VarHandle") → selectMethod e.platform s.vm P1.m.cls r = .method r := by
    intro y r hm hn hy
    obtain ⟨c2, r2, m2, q1, q2, q3, q4, -⟩ := Cond.selects_spec (at' _ hm)
    cases Option.some.inj (q1.symm.trans hfound)
    cases Option.some.inj (q2.symm.trans (State.methodFound?_of_named hn hy))
    cases Option.some.inj (q3.symm.trans hn)
    rw [Launch.admits_selectMethod X.admits]; exact q4
  have hsel0 := hsel Bundle.tFill0 K.fill0 (by simp [Bundle.ownAtoms0]) Y.fill0 (by decide)
  have hselF := hsel Bundle.tFill K.fill (by simp [Bundle.ownAtoms0]) Y.fill (by decide)
  obtain ⟨cS0, hcS0, hiss⟩ := Y.statics
  obtain ⟨u0, hu0⟩ := Cond.staticRefV Y.unassigned KL.unassignedStatic KL.statics hcS0 hiss (at' (.isRef (.static Bundle.tN "UNASSIGNED_STACK" Bundle.steD)) (by simp [Bundle.ownAtoms0]))
  obtain ⟨sen, hsen⟩ := Cond.staticRefV Y.sentinel KL.sentinelStatic KL.statics hcS0 hiss (at' (.isRef (.static Bundle.tN "SUPPRESSED_SENTINEL" Bundle.listD)) (by simp [Bundle.ownAtoms0]))
  obtain ⟨ci, i198, fB, hk198, hg198, ha198, hsB, -, hnB, htB, hffB⟩ := Cond.ownField (t := .object "java/lang/Object") Y.found KL.cls (by decide +kernel) (at' (.fieldLink Bundle.tN 198 Bundle.tN "backtrace" "Ljava/lang/Object;") (by simp [Bundle.ownAtoms0])) (at' (.lays Bundle.tN Bundle.tN "backtrace" "Ljava/lang/Object;") (by simp [Bundle.ownAtoms0])) e.platform hpl
  obtain ⟨cS, hcS', heS, -, hkeep⟩ := X.same.2.2.2.2.2 K.aS cS0 hcS0
  have hcS : T.heap[K.aS]? = some cS := hcS'
  have hfree : ∀ i, (⟨K.aS, i⟩ : Loc) ∉ locs := fun i hmem => by
    have := hlocs _ hmem cS0 hcS0
    rw [hiss] at this; cases this
  have hkS : cS.vm ≠ .unknown := by
    rw [heS]; intro hu
    rw [show cS0.vm = .unknown from hu] at hiss
    cases hiss
  have hneS : K.aS ≠ a := Nat.ne_of_lt (Nat.lt_of_lt_of_le (Array.getElem?_eq_some_iff.mp hcS0).1 hnew)
  obtain ⟨tyC, dC, hdC, hdnC⟩ := Cond.laysAt hfound hk Y.cause (at' (.lays cls Bundle.tN "cause" "Ljava/lang/Throwable;") (by simp [Bundle.ownAtoms0]))
  obtain ⟨tyS, dS, hdS, hdnS⟩ := Cond.laysAt hfound hk Y.stack (at' (.lays cls Bundle.tN "stackTrace" Bundle.steD) (by simp [Bundle.ownAtoms0]))
  obtain ⟨tyP, dP, hdP, hdnP⟩ := Cond.laysAt hfound hk Y.supp (at' (.lays cls Bundle.tN "suppressedExceptions" Bundle.listD) (by simp [Bundle.ownAtoms0]))
  obtain ⟨tyB, dB, hdB, hdnB⟩ := Cond.laysAt hfound hk hffB (at' (.lays cls Bundle.tN "backtrace" "Ljava/lang/Object;") (by simp [Bundle.ownAtoms0]))
  have bC := Cond.laysApart hdB hdC hdnB hdnC (by rw [hnB, Y.causeName]; decide)
  have bS := Cond.laysApart hdB hdS hdnB hdnS (by rw [hnB, Y.stackName]; decide)
  have bP := Cond.laysApart hdB hdP hdnB hdnP (by rw [hnB, Y.suppName]; decide)
  have hskip : SkipFacts K e.platform s (fun u => u) u0 ((preparedCellV K.toThrowableT (freshCell P1.m.cls kX) a u0 sen).withEntry T.cur) :=
    ⟨{ ci198 := ci, i198 := i198, fBack := fB }, ⟨hk198, hg198, ha198, hsB⟩, by
      have := fresh_default (c := P1.m.cls) tyB
      rw [htB] at this
      simpa [preparedCellV, Cell.setSlot, Cell.withEntry, Array.getElem?_setIfInBounds, bC, bS, bP, bC.symm, bS.symm, bP.symm, defaultValue] using this, fun _ _ => rfl⟩
  obtain ⟨tm, methC, cdC, kC, vm₁, hnC, -, -, -, -, -, -, -, hW₁, st1⟩ := Steps.initCold (tb := p.tables) (e := e) (below := below) (s := s) (U := T) X.here hexec X.warmed hpl hown (t := Bundle.init0 cls) rfl rfl (Bundle.fit_spec hcls).2
    (at' (.methodLink own ic (Bundle.init0 cls)) (by simp [Bundle.ownAtoms0])) (h (.instanceMethod (Bundle.init0 cls)) (by cases names <;> simp [Bundle.ownAtoms0, Bundle.chain0Atoms, Bundle.passAtoms])) (bytes := Bundle.five) (maxL := 1) (h (.code (Bundle.init0 cls) Bundle.five 1 none) (by cases names <;> simp [Bundle.ownAtoms0, Bundle.chain0Atoms, Bundle.passAtoms]))
    (f := g) hg (a := a) (rest := .ref a :: rest) hstack hd6
  cases Option.some.inj (hnC.symm.trans hP1m)
  have X₁ := X.noted hW₁
  obtain ⟨vm₂, X₂, st2⟩ := X₁.ctorPlainOffV hexec (g := { g with stack := .ref a :: rest }) hg hsize K KL Z LZ (P1 :: Ps)
    (fun P hP => by rcases List.mem_cons.mp hP with rfl | hP; exact L1; exact hLs P hP) ⟨hlink1, hlink⟩ (u0 := u0) (sen := sen) (self := a) (cell := freshCell P1.m.cls kX) (cellS := cS)
    hcell (fun _ => by simp) (by simp) rfl rfl hsel0 hselF hcS hneS hkS (by rw [hkeep _ (hfree _)]; exact hu0) (by rw [hkeep _ (hfree _)]; exact hsen)
    (Takes.of_laid hk hord tyC (by rw [Y.causeType]; rfl)) (Takes.of_laid hk hord tyS (by rw [Y.stackType]; exact fits_refV_array _ u0)) (Takes.of_laid hk hord tyP (by rw [Y.suppType]; exact fits_refV_object _ sen)) Y.objLocals hskip htr [] hd6
    (by simp only [List.length_cons, hlen]; omega) (by simp only [List.length_cons, hlen]; exact hRl)
  obtain ⟨hwalk, -⟩ := X₂.athrowLeaves hexec (g := { g with stack := .ref a :: rest, pc := g.pc + 3 }) hg hlocked hentered hout (a := a) (rest := rest) rfl hd9
  refine ⟨vm₂, _, _, X₂, ?_, rfl, rfl, st1 _ (fun acts => ?_)⟩
  · intro q hq
    simp only [List.mem_cons, List.not_mem_nil, or_false] at hq
    rcases hq with rfl | rfl | rfl | rfl <;> rfl
  · rw [doInvoke_state]
    exact st2 _ hwalk
end thr
def exNames : List String := ["java/lang/RuntimeException", "java/lang/Exception"]
/-- what the throws read of Throwable's statics -/
def BZ (D : mW) (Sta : State) : Prop := va_Zq Bundle.tN "UNASSIGNED_STACK" Bundle.steD (fun a => Ws0 D ≤ a) Sta Sta.heap ∧ va_Zq Bundle.tN "SUPPRESSED_SENTINEL" Bundle.listD (fun a => Ws0 D ≤ a) Sta Sta.heap
def isR1 : Cond := .isRef (.static Bundle.tN "UNASSIGNED_STACK" Bundle.steD)
def isR2 : Cond := .isRef (.static Bundle.tN "SUPPRESSED_SENTINEL" Bundle.listD)
def lyS1 : Cond := .laysStatic Bundle.tN "UNASSIGNED_STACK" Bundle.steD
def lyS2 : Cond := .laysStatic Bundle.tN "SUPPRESSED_SENTINEL" Bundle.listD
/-- a throw site: its words -/
def TW (own ic : Nat) (a : Nat) : Prop := ∀ w ∈ Bundle.ownAtoms0 (cNm own) ic (cNm a) exNames, (w = isR1 ∨ w = isR2) ∨ (w ∈ lw_tbl ∧ (okw w = true ∨ w = lyS1 ∨ w = lyS2))
theorem ls_kept {S U : State} {A A' : Array Value} (hal : S.vm.Alike U.vm) (hk : ∀ q, q < S.heap.size → U.heap[q]? = S.heap[q]?) {o n d : String} (h : (Cond.laysStatic o n d).before A S = true) : (Cond.laysStatic o n d).before A' U = true := by
  obtain ⟨c, k, i, f, a, cell, hc, hi, hst, ha, hcell, hs, hcls, hlt, hty⟩ := Cond.laysStatic_spec h
  obtain ⟨k', hi', hek⟩ := State.fieldFound?_setVm hal hi
  exact Cond.laysStatic_of (s := U) (by rw [hal.findClass]; exact hc) (by simpa only [State.fieldFound?, State.vm_setVm] using hi') hst (by rw [hek]; exact ha) (by rw [hk a (Array.getElem?_eq_some_iff.mp hcell).1]; exact hcell) hs hcls hlt (by rw [hek]; exact hty)
/-- outcomes and contracts -/
def oT (D : mW) : Outcome → Outcome
  | .returned v => .returned (v.map (Wtv D))
  | .threw a => .threw (Wra D a)
def PcM (D : mW) (Sta : State) (vs : List Value) (G : mG) (a : Array Value) (st : State) : Prop := a = (vs.map (Wtv D)).toArray ∧ Rep D Sta.heap G st.heap ∧ RepC G ∧ Sta.WarmedH st.vm
def QcM (D : mW) (Sta : State) (r : mR) (_ : Array Value) (_ : State) (o : Outcome) (t : State) : Prop := o = oT D r.1 ∧ Rep D Sta.heap r.2 t.heap ∧ RepC r.2
def Mtd (D : mW) (Sta : State) (l : Launch) (d m : Nat) (vs : List Value) (G : mG) (r : mR) : Prop := MetX l (mY m) (mWd m) { frames := d, cells := nx r.2 - nx G, slots := us r.2 - us G, locals := 41 * d } (PcM D Sta vs G) (QcM D Sta r) (nx r.2 - nx G) (us r.2 - us G) (fun a => Ws0 D ≤ a)
def QE (D : mW) (Sta : State) (below : List Frame) (args : Array Value) (s : State) (n0 u0 : Nat) (r : mR) : State → Prop := MQX below (QcM D Sta r) args s (nx r.2 - n0) (us r.2 - u0) (fun a => Ws0 D ≤ a)
section outs
variable {D : mW} {Sta : State} {p : Program} {l : Launch} {e : Env} {R : Room} {s : State} {mi : MethodId} {args : Array Value} {below : List Frame} {meth : Method} {c : Code} {n0 u0 : Nat}
theorem g_thr {m d pc x ic a : Nat} {L : mL} {st : List Value} {G : mG} (hZ : Base D Sta) (hBZ : BZ D Sta) (hC : Ctx D Sta p e s mi meth c m) (ha : a = 22 ∨ a = 23)
    (hd0 : decode (mCod m) pc = .ok (.new x, 3)) (hd1 : decode (mCod m) (pc + 3) = .ok (.dup, 1)) (hd2 : decode (mCod m) (pc + 4) = .ok (.invokespecial ic, 3)) (hd3 : decode (mCod m) (pc + 7) = .ok (.athrow, 1)) (hraw : mRaw m = [])
    (hcl : CLw (mOw m, x, cNm a)) (hins : Cond.instantiable (cNm a) 6 ∈ lw_tbl) (hini : Cond.initialized (cNm a) ∈ lw_tbl) (htw : TW (mOw m) ic a)
    (hd : d ≤ R.frames ∧ 41 * d ≤ R.locals) (h6 : 6 ≤ d) (h8 : st.length ≤ 8) (hn0 : n0 ≤ nx G ∧ u0 ≤ us G) (hrm : nx G + 1 - n0 ≤ R.cells ∧ us G + 6 - u0 ≤ R.slots) :
    Gd D Sta p l e R s mi args below meth c n0 u0 (QE D Sta below args s n0 u0 (.threw (nx G), al G a 0 6)) (d, m, pc, L, st, G) := by
  intro H locs ls hR hRc hL hl
  obtain ⟨hB, hBC, hBA, hBS, hBK, hBM, hBN, hBI⟩ := hZ
  dsimp only at hR hRc hL ⊢
  obtain ⟨hx, hb, hml, hr, hown, hlocks, hW, hnm, htab, hs0, hs0', hfro, ⟨htr, hns⟩, hD⟩ := id hC
  have hsz : H.size = Wra D (nx G) := by rw [Wra_hi hR.1, hR.2.1]
  have hfc : s.vm.findClass (cNm a) = some (WdC D a) := by rw [hW.alike.findClass]; exact (hBC.2.1 a ha).1
  suffices main : s.heap.size ≤ H.size → W p l e R s mi args below meth c H locs (nx G - n0) (us G - u0) (QE D Sta below args s n0 u0 (.threw (nx G), al G a 0 6)) (F0 mi pc ls (st.map (Wtv D))) by
    intro T0 hT0 X0
    exact main (by rw [← hT0]; exact X0.same.2.1) T0 hT0 X0
  intro hle
  refine W.newcK hx hb hown (hC.wd hB hcl rfl) (hC.wd hB hins rfl) (hC.wd hB hini rfl) rfl hd0 (by omega) (by omega) hfc hsz (fun H' kC hkC h1 h2 h3 => ?_)
  show W p l e R s mi args below meth c H' locs (nx G - n0 + 1) (us G - u0 + 6) _ (F0 mi (pc + 3) ls (.ref (Wra D (nx G)) :: st.map (Wtv D)))
  refine lv_dup hx hb hd1 rfl ?_
  intro T hT X
  have hat : ∀ w ∈ Bundle.ownAtoms0 (cNm (mOw m)) ic (cNm a) exNames, w.before args s = true := by
    intro w hw
    have hz : ∀ C n d', va_Zq C n d' (fun a => Ws0 D ≤ a) Sta Sta.heap → (Cond.isRef (.static C n d')).before args s = true := fun C n d' h => zq_isRef ((h.moved hW.alike).kept (fun q hq hq2 => hfro q (by omega)))
    rcases htw w hw with (rfl | rfl) | ⟨q1, q2 | rfl | rfl⟩
    · exact hz _ _ _ hBZ.1
    · exact hz _ _ _ hBZ.2
    · exact hC.wd hB q1 q2
    · obtain ⟨A, hA⟩ := hB _ q1
      exact ls_kept hW.alike (fun q hq => hfro q (by omega)) hA
    · obtain ⟨A, hA⟩ := hB _ q1
      exact ls_kept hW.alike (fun q hq => hfro q (by omega)) hA
  have hsum := catsum (D := D) hD st
  obtain ⟨vm', cell', L', X', hL', hc', hv', hst⟩ := g_ctor (g := F0 mi (pc + 4) ls (.ref (Wra D (nx G)) :: .ref (Wra D (nx G)) :: st.map (Wtv D))) X hx htr hown (cls := cNm a) (names := exNames) (by rcases ha with rfl | rfl <;> decide +kernel) (by decide +kernel) hat
    (fun q hq cell hcell => hns q.base cell (hl q hq) hcell) hfc hkC (by rw [hT]; exact h1) (by rw [← hsz]; exact hle) rfl (by rw [hml]; exact hL.1) rfl rfl rfl (by rw [hb]; exact hd2) (by rw [hb]; exact hd3) (by rw [htab, hraw]; intro q hq; cases hq) (by show 2 + 3 < _; omega) (by
      show 2 * 0 + ((Value.ref (Wra D (nx G)) :: st.map (Wtv D)).map fun v => v.category).sum + (13 * (2 + 1) + 41) ≤ _
      simp only [List.map_cons, List.sum_cons]
      have : (Value.ref (Wra D (nx G))).category = 1 := rfl
      omega) hlocks
  have hlt : Wra D (nx G) < T.heap.size := by rw [hT, h2]; omega
  refine ⟨_, hst, .threw (Wra D (nx G)), (g_ended X' _).1, (g_ended X' _).2.1, ⟨rfl, ?_, hRc.alloc hR.nx0 (by omega)⟩, locs ++ L', (g_ended X' _).2.2.1, ?_, ?_⟩
  · show Rep D Sta.heap (al G a 0 6) (T.heap.setIfInBounds (Wra D (nx G)) cell')
    refine hR.alloc (cell := cell') (by rw [hsz]; simp [hlt]) ?_ (by rw [Array.size_setIfInBounds, hT, h2, hsz]) (fun q hq => by
      rw [Array.getElem?_setIfInBounds, if_neg (by omega), hT]; exact h3 q (by omega))
    have h9 : asrt a = 9 ∧ cN a = 0 := by rcases ha with rfl | rfl <;> decide
    refine ⟨fun _ => hv', (by rw [hv']; intro q; cases q), (by rw [hv']; rfl), (by rw [al_tg, if_pos rfl]; exact hc'), ?_, ?_⟩
    · rw [al_tg, if_pos rfl]
      intro _ k hk
      rw [h9.2] at hk
      exact absurd hk (Nat.not_lt_zero _)
    · rw [al_tg, if_pos rfl]
      intro q; exact absurd h9.1 q
  · have e1 : nx (al G a 0 6) - n0 = nx G - n0 + 1 := by rw [al_nx]; omega
    have e2 : us (al G a 0 6) - u0 = us G - u0 + 6 := by rw [al_us]; omega
    show s.sameButNew _ _ (nx (al G a 0 6) - n0) (us (al G a 0 6) - u0)
    rw [e1, e2]
    exact (g_ended X' _).2.2.2
  · intro q hq
    rcases List.mem_append.mp hq with q1 | q1
    · exact hl q q1
    · rw [hL' q q1, Wra_hi hR.1]; omega
/-- the returns -/
theorem ret_nar {ty : FieldType} {a : Nat} {x : Int32} (h : srt ty = a) (ha : a = 0 ∨ a = 4 ∨ a = 5 ∨ a = 6) (hr : ret1 a (.int x) = true) : narrow ty (.int x) = .int x := by
  have hf : a = 0 ∨ a = 4 ∨ a = 5 → narrow ty (.int x) = .int x := by
    intro ha'
    have hp : ∃ G', pv (al (fun _ => 0, fun _ => 0, fun _ _ => 0, fun _ _ => 0, fun _ _ => 0, fun _ _ => none, 0, 0) 0 0 0) a 0 0 (.int x) = some G' := by
      rcases ha' with rfl | rfl | rfl
      · exact ⟨_, rfl⟩
      · simp only [ret1] at hr
        simp only [pv, hr, if_true]
        exact ⟨_, rfl⟩
      · simp only [ret1] at hr
        simp only [pv, hr, if_true]
        exact ⟨_, rfl⟩
    obtain ⟨G', hp⟩ := hp
    exact (fit_of (D := (fun _ => 0, 0, .null, fun _ => 0, fun _ _ => 0)) hp h).1
  rcases ha with q | q | q | q
  · exact hf (Or.inl q)
  · exact hf (Or.inr (Or.inl q))
  · exact hf (Or.inr (Or.inr q))
  · subst q
    simp only [ret1, decide_eq_true_eq] at hr
    subst hr
    cases ty <;> simp [srt] at h
    rfl
end outs
