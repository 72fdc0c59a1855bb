/-! SOUNDNESS: exceptions that pass a method; invocations -/
set_option maxRecDepth 100000
section find
variable {p : Program} {l : Launch} {e : Env} {R : Room} {s : State} {mi : MethodId} {args : Array Value} {below : List Frame} {meth : Method} {c : Code} {T : State} {locs : List Loc} {cells slots : Nat}
theorem fh_yes {Q : Handler → Pre} {E : CtlPost} {d : Bool} {acts : List Action} {f : JFrame} {a : Addr} {U : State} {x : ExceptionTableEntry} {t : List ExceptionTableEntry} {cT : ClassId} {cell : Cell} (hx : covers x f.pc = true) (h0 : x.catchType ≠ 0)
    (hl : U.vm.ClassLinks e.platform f.method.cls x.catchType cT) (hcell : U.heap[a]? = some cell) (hobj : ∀ k, cell.vm ≠ .statics k)
    (hk : ∃ k, U.vm.classes[cell.cls]? = some k) (hc : ∃ k, U.vm.classes[cT]? = some k) :
    wp (findHandler.go f a (x :: t)) Q E e d acts U ↔ (if U.vm.assignable cell.cls cT = true then Q (.found x.handlerPc) d acts (U.setVm (U.vm.noted f.method.cls x.catchType (.cls cT))) else wp (findHandler.go f a t) Q E e d acts (U.setVm (U.vm.noted f.method.cls x.catchType (.cls cT)))) := by
  simp only [covers] at hx
  obtain ⟨ha, ht⟩ := (resolveClass_links e.toSetting hl).op (op := VmOp.resolveClass f.method.cls x.catchType) rfl
  have hal : U.vm.Alike (U.vm.noted f.method.cls x.catchType (.cls cT)) := (Vm.Alike.refl U.vm).noted _ _ _
  obtain ⟨k1, hk1⟩ := hk
  obtain ⟨k2, hk2⟩ := hc
  obtain ⟨k1', hk1', -⟩ := hal.2.2 _ _ hk1
  obtain ⟨k2', hk2', -⟩ := hal.2.2 _ _ hk2
  have hfit' : (U.vm.noted f.method.cls x.catchType (.cls cT)).assignable cell.cls cT = U.vm.assignable cell.cls cT := by rw [hal.assignable]
  cases hq : U.vm.assignable cell.cls cT <;>
    simp [findHandler.go, hx, h0, ha, ht, hcell, hobj, hk1', hk2', hfit', hq, VmOp.dirties, VmOp.acts]
/-- the two tables of handlers say the same -/
def hOK (own : Nat) : List (Nat × Nat × Nat × Nat) → List (Nat × Nat × Nat × Nat) → Bool
  | [], [] => true
  | r :: rs, h :: hs => r.1 == h.1 && r.2.1 == h.2.1 && r.2.2.1 == h.2.2.1 && lC.elem (own, r.2.2.2, cNm h.2.2.2) && (h.2.2.2 == 22 || h.2.2.2 == 23) && r.2.2.2 != 0 && hOK own rs hs
  | _, _ => false
theorem hOK_all : ∀ m, m < mNum → hOK (mOw m) (mRaw m) (mHnd m) = true := by decide +kernel
def hres : Option Nat → Handler
  | some q => .found q
  | none => .none
/-- the search for a handler -/
theorem fh_all {D : mW} {Sta : State} (hB : BT Sta) (hBC : BC D Sta) (hBN : BN Sta) (hW : Sta.WarmedH s.vm) {own t : Nat} (hown : s.vm.findClass (cNm own) = some mi.cls) (hpl : e.platform.magicAccessors = ({} : Platform).magicAccessors) {f : JFrame} (hf : f.method = mi) {a : Addr} {cell : Cell} (ht : t = 22 ∨ t = 23) (hcls : cell.cls = WdC D t) (hvm : cell.vm.isStatics = false) :
    ∀ (rs hs : List (Nat × Nat × Nat × Nat)), hOK own rs hs = true → ∀ U : State, s.WarmedH U.vm → U.heap[a]? = some cell → ∃ vm', s.WarmedH vm' ∧ ∀ (Q : Handler → Pre) (E : CtlPost) (d : Bool) (acts : List Action), wp (findHandler.go f a (tableOf rs)) Q E e d acts U ↔ Q (hres (hnd hs f.pc t)) d acts (U.setVm vm') := by
  intro rs
  induction rs with
  | nil =>
    intro hs hok U hU hcell
    cases hs with
    | nil => exact ⟨U.vm, hU, fun Q E d acts => W.findHandler_go_nil⟩
    | cons h hs => cases hok
  | cons r rs ih =>
    intro hs hok U hU hcell
    cases hs with
    | nil => cases hok
    | cons h hs =>
    simp only [hOK, Bool.and_eq_true, Bool.or_eq_true, beq_iff_eq, bne_iff_ne, ne_eq] at hok
    obtain ⟨⟨⟨⟨⟨⟨e1, e2⟩, e3⟩, hel⟩, htag⟩, hne⟩, hrest⟩ := hok
    have hstep : hnd (h :: hs) f.pc t = if h.1 ≤ f.pc ∧ f.pc < h.2.1 ∧ t = h.2.2.2 then some h.2.2.1 else hnd hs f.pc t := rfl
    by_cases hcov : h.1 ≤ f.pc ∧ f.pc < h.2.1
    · have hcov' : covers (⟨r.1, r.2.1, r.2.2.1, r.2.2.2⟩ : ExceptionTableEntry) f.pc = true := by
        simp only [covers, Bool.and_eq_true, decide_eq_true_eq]
        rw [e1, e2]; exact hcov
      have hlink : (Cond.classLink (cNm own) r.2.2.2 (cNm h.2.2.2)).before #[] s = true := by
        obtain ⟨A, hA⟩ := hB _ (lC_ok _ (List.mem_of_elem_eq_true hel))
        exact wat hW rfl hA
      obtain ⟨cT, hcT, hcl⟩ := Cond.classLink_spec hown hlink e.platform hpl
      obtain ⟨dk, _, _, kt, hd, _, _, _, _, hkt, _, hopen⟩ := hcl.here
      have hcl₀ := hU.classLinks hcl
      have hW' : s.WarmedH (U.vm.noted mi.cls r.2.2.2 (.cls cT)) := hU.noted hd hopen (State.rightAt_cls hcl)
      obtain ⟨kt', hkt', -⟩ := hU.alike.2.2 _ _ hkt
      have hcm : ∀ z, z = 22 ∨ z = 23 → s.vm.findClass (cNm z) = some (WdC D z) := fun z hz => by
        rw [hW.alike.findClass]; exact (hBC.2.1 z hz).1
      have hfc := hcm t ht
      obtain ⟨kC, hkC, -⟩ := Vm.findClass_spec hfc
      obtain ⟨kC', hkC', -⟩ := hU.alike.2.2 _ _ hkC
      have hcT' : cT = WdC D h.2.2.2 := Option.some.inj (hcT.symm.trans (hcm _ htag))
      have hmain := fun (Q : Handler → Pre) (E : CtlPost) (d : Bool) (acts : List Action) => fh_yes (Q := Q) (E := E) (e := e) (d := d) (acts := acts) (f := f) (a := a) (U := U) (x := ⟨r.1, r.2.1, r.2.2.1, r.2.2.2⟩) (t := tableOf rs) (cT := cT) (cell := cell) hcov' hne (by rw [hf]; exact hcl₀) hcell (VmData.ne_statics_of hvm) ⟨kC', by rw [hcls]; exact hkC'⟩ ⟨kt', hkt'⟩
      rw [hf] at hmain
      by_cases htt : t = h.2.2.2
      · refine ⟨_, hW', fun Q E d acts => (hmain Q E d acts).trans ?_⟩
        have hasg : U.vm.assignable cell.cls cT = true := by rw [hcls, hcT', htt]; exact va_asg _ _
        rw [if_pos hasg, hstep, if_pos ⟨hcov.1, hcov.2, htt⟩]
        show Q (.found r.2.2.1) _ _ _ ↔ Q (.found h.2.2.1) _ _ _
        rw [e3]
      · obtain ⟨vm', hv1, hv2⟩ := ih hs hrest (U.setVm (U.vm.noted mi.cls r.2.2.2 (.cls cT))) hW' hcell
        refine ⟨vm', hv1, fun Q E d acts => (hmain Q E d acts).trans ?_⟩
        have hnc : va_Nc (cNm t) (cNm h.2.2.2) Sta := by
          rcases ht with rfl | rfl <;> rcases htag with q | q
          · exact absurd q.symm htt
          · rw [q]; exact hBN.2.1
          · rw [q]; exact hBN.2.2
          · exact absurd q.symm htt
        obtain ⟨z1, z2, y1, y2, y3⟩ := va_Nc.moved (hW.alike.trans hU.alike) hnc
        have hz1 : z1 = WdC D t := Option.some.inj (y1.symm.trans (by rw [hU.alike.findClass]; exact hfc))
        have hz2 : z2 = WdC D h.2.2.2 := Option.some.inj (y2.symm.trans (by rw [hU.alike.findClass]; exact hcm _ htag))
        have hasg : ¬ U.vm.assignable cell.cls cT = true := by rw [hcls, hcT', ← hz1, ← hz2, y3]; simp
        rw [if_neg hasg, hstep, if_neg (fun q => htt q.2.2)]
        exact hv2 Q E d acts
    · obtain ⟨vm', hv1, hv2⟩ := ih hs hrest U hU hcell
      refine ⟨vm', hv1, fun Q E d acts => ?_⟩
      rw [hstep, if_neg (fun q => hcov ⟨q.1, q.2.1⟩)]
      have hcov' : covers (⟨r.1, r.2.1, r.2.2.1, r.2.2.2⟩ : ExceptionTableEntry) f.pc = false := by
        simp only [covers, Bool.and_eq_false_iff, decide_eq_false_iff_not]
        rw [e1, e2]; omega
      exact (W.findHandler_go_skip hcov').trans (hv2 Q E d acts)
def FindsT (e : Env) (S : State) (f : JFrame) (a : Addr) (h : Handler) (vm' : Vm) : Prop :=
  ∀ (Q : Handler → Pre) (E : CtlPost) (d : Bool) (acts : List Action), wp (findHandler f a) Q E e d acts S ↔ Q h d acts (S.setVm vm')
theorem st_catch {S : State} {a : Addr} {f : JFrame} {r : List Frame} {pc : Nat} {vm' : Vm} (hfind : FindsT e S f a (.found pc) vm') :
    (stepThrowing e S a (.java f :: r)).Is ((S.setVm vm').setFrames (.java { f with pc := pc, stack := [.ref a] } :: r)) [] := by
  simp only [stepThrowing, searchFrame, vmDo]
  generalize hr : Sem.go _ e false [] S = res
  obtain ⟨as, rfl, ha⟩ := Sem.eq_ok_of hr (a := Handler.found pc) (s' := S.setVm vm') (acts' := []) (by simp [hfind _ _ _ _])
  exact ⟨rfl, ha⟩
theorem st_leave {S : State} {a : Addr} {f : JFrame} {r : List Frame} {meth : Method} {vm' : Vm}
    (hm : vm'.method? f.method = some meth) (hl : meth.locks = false) (hlocked : f.locked = none) (hentered : f.entered = []) (hfind : FindsT e S f a .none vm') :
    (stepThrowing e S a (.java f :: r)).Is ((S.setVm vm').setFrames (.throwing a :: r)) [] := by
  have hm' : (S.setVm vm').vm.method? f.method = some meth := hm
  simp only [stepThrowing, searchFrame, vmDo]
  generalize hr : Sem.go _ e false [] S = res
  obtain ⟨as, rfl, ha⟩ := Sem.eq_ok_of hr (a := Handler.none) (s' := S.setVm vm') (acts' := [])
    (by cases hp : e.platform.frameOwnsMonitors <;> simp [hfind _ _ _ _, hm', hm, hl, hlocked, hentered, hp, leaveIfLocked])
  exact ⟨rfl, ha⟩
theorem sfvf (u : State) (vm' : Vm) (F G : List Frame) : ((u.setFrames F).setVm vm').setFrames G = (u.setVm vm').setFrames G := by
  have h1 : (u.setFrames F).setVm vm' = (u.setVm vm').setFrames F := rfl
  rw [h1, State.setFrames_setFrames]
theorem s_catch {tb : Tables} {S target : State} {g : JFrame} {a : Addr} (h : At S g.method c below) {pc : Nat} {vm' : Vm}
    (hfind : FindsT e ((S.setTop g).pushFrame (.throwing a)) g a (.found pc) vm') (hrest : Steps tb e below ((S.setVm vm').setTop { g with pc := pc, stack := [.ref a] }) target) :
    Steps tb e below ((S.setTop g).pushFrame (.throwing a)) target := by
  obtain ⟨hgo, hw⟩ := h.throwing a
  refine Steps.head hgo hw ?_
  rw [stepThread_throwing (frames_entered h.top _), (st_catch (S := (S.setTop g).pushFrame (.throwing a)) hfind).1]
  obtain ⟨g₀, hg⟩ := Option.isSome_iff_exists.mp h.top
  obtain ⟨r, hr⟩ := State.topJava?_eq_some.mp hg
  have hr' : (S.setVm vm').frames = .java g₀ :: r := hr
  rw [State.setTop_of_frames _ hr'] at hrest
  rw [hr, List.tail_cons, State.pushFrame, sfvf, State.setTop_of_frames _ hr, sfvf]
  exact hrest
theorem s_leave {tb : Tables} {S target : State} {g : JFrame} {a : Addr} (h : At S g.method c below) {vm' : Vm} {meth : Method} (hm : vm'.method? g.method = some meth) (hl : meth.locks = false) (hlocked : g.locked = none) (hentered : g.entered = [])
    (hfind : FindsT e ((S.setTop g).pushFrame (.throwing a)) g a .none vm') (hrest : Steps tb e below ((S.setVm vm').setFrames (.throwing a :: S.frames.tail)) target) :
    Steps tb e below ((S.setTop g).pushFrame (.throwing a)) target := by
  obtain ⟨hgo, hw⟩ := h.throwing a
  refine Steps.head hgo hw ?_
  rw [stepThread_throwing (frames_entered h.top _), (st_leave (S := (S.setTop g).pushFrame (.throwing a)) hm hl hlocked hentered hfind).1]
  obtain ⟨g₀, hg⟩ := Option.isSome_iff_exists.mp h.top
  obtain ⟨r, hr⟩ := State.topJava?_eq_some.mp hg
  rw [State.pushFrame, sfvf, State.setTop_of_frames _ hr, sfvf]
  exact hrest
/-- an exception arrives in a frame of a method -/
theorem g_thrown {D : mW} {Sta : State} (hB : BT Sta) (hBC : BC D Sta) (hBN : BN Sta) {m t : Nat} (hm : m < mNum) (hC : Ctx D Sta p e s mi meth c m) (X : Stand p l e R s mi args below meth c T locs cells slots) {g : JFrame} (hg : g.method = mi) (hlocked : g.locked = none) (hentered : g.entered = [])
    {a : Addr} {cell : Cell} (ht : t = 22 ∨ t = 23) (hcell : T.heap[a]? = some cell) (hcls : cell.cls = WdC D t) (hvm : cell.vm.isStatics = false) :
    ∃ vm', Stand p l e R s mi args below meth c (T.setVm vm') locs cells slots ∧ match hnd (mHnd m) g.pc t with
      | some q => ∀ target, Steps p.tables e below ((T.setVm vm').setTop { g with pc := q, stack := [.ref a] }) target → Steps p.tables e below ((T.setTop g).pushFrame (.throwing a)) target
      | none => Steps p.tables e below ((T.setTop g).pushFrame (.throwing a)) ((T.setVm vm').setFrames (.throwing a :: below)) := by
  obtain ⟨hx, hb, hml, hr, hown, hlocks, hW, hnm, htab, hs0, hs0', hfro, htr, hD⟩ := id hC
  have hpl : e.platform.magicAccessors = ({} : Platform).magicAccessors := by rw [X.admits.platform]
  have hU : s.WarmedH ((T.setTop g).pushFrame (.throwing a)).vm := X.warmed
  obtain ⟨vm', hv1, hv2⟩ := fh_all hB hBC hBN hW hown hpl (f := g) hg (a := a) (cell := cell) ht hcls hvm (mRaw m) (mHnd m) (hOK_all m hm) ((T.setTop g).pushFrame (.throwing a)) hU hcell
  have hfind : FindsT e ((T.setTop g).pushFrame (.throwing a)) g a (hres (hnd (mHnd m) g.pc t)) vm' := by
    intro Q E d acts
    rw [W.findHandler_eq (meth := meth) (code := c) (by rw [hg]; exact X.method') X.code, htab]
    exact hv2 Q E d acts
  refine ⟨vm', X.noted hv1, ?_⟩
  have hA : At T g.method c below := by rw [hg]; exact X.here
  cases hh : hnd (mHnd m) g.pc t with
  | some q =>
    rw [hh] at hfind
    exact fun target hrest => s_catch hA hfind hrest
  | none =>
    rw [hh] at hfind
    refine s_leave hA (meth := meth) (by rw [hg]; exact (X.noted hv1).method') hlocks hlocked hentered hfind ?_
    rw [X.tail]
    exact Steps.refl _
/-- the end of an invocation that threw -/
theorem g_ended (X : Stand p l e R s mi args below meth c T locs cells slots) (a : Addr) : (T.setFrames (.throwing a :: below)).status = .running ∧ Ended (T.setFrames (.throwing a :: below)) below (.threw a) ∧ s.WarmedH (T.setFrames (.throwing a :: below)).vm ∧ s.sameButNew ({ T.setFrames (.throwing a :: below) with vm := s.vm } : State) locs cells slots := by
  obtain ⟨g₀, hfr⟩ := X.frames_eq
  exact ⟨X.here.running, State.frames_setFrames _ (State.cur_lt_of_frames hfr), (X.ends _).1, (X.ends _).2⟩
end find
