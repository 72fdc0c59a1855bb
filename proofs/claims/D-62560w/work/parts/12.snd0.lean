/-! SOUNDNESS, the frame: words at every state of the run, locals, ends, calls -/
set_option maxRecDepth 100000
/-- words that hold at every warmer state -/
def okw (w : Cond) : Bool := goodWord w || (match w with
  | .fieldLinkNest .. => true
  | .methodLinkNest .. => true
  | .castable .. => true
  | .declares .. => true
  | .publicMethod .. => true
  | .unhidden .. => true
  | .arrayOver (.object _) => true
  | _ => false)
theorem wat {S U : State} {A A' : Array Value} {w : Cond} (hW : S.WarmedH U.vm) (hk : okw w = true) (h : w.before A S = true) : w.before A' U = true := by
  unfold okw at hk
  rw [Bool.or_eq_true] at hk
  rcases hk with hk | hk
  · exact word_at hW (good_of_word hk) h
  · cases w <;> simp only [Bool.false_eq_true] at hk
    case fieldLinkNest => exact va_Nw.use rfl (va_Nw.warmF hW (va_Nw.of rfl h))
    case methodLinkNest => exact va_Nw.use rfl (va_Nw.warmM hW (va_Nw.of rfl h))
    case castable => exact va_Nw.use rfl (va_Nw.warmC hW (va_Nw.of rfl h))
    case declares => exact va_Nw.use rfl (va_Nw.warmD hW (va_Nw.of rfl h))
    case publicMethod => exact va_tabs rfl (rfl : (S.setVm U.vm).vm = U.vm) (Cond.before_warmed hW _ trivial h)
    case unhidden => exact va_tabs rfl (rfl : (S.setVm U.vm).vm = U.vm) (Cond.before_warmed hW _ trivial h)
    case arrayOver ty =>
      cases ty <;> simp only [Bool.false_eq_true] at hk
      exact va_AO.use (va_AO.moved hW.alike (va_AO.of h))
section lvr
/-- the locals -/
def lvR (D : mW) (n : Nat) (L : mL) (ls : Array Slot) : Prop := ls.size = n ∧ L.length = n ∧ lv_wf ls ∧ ∀ (k : Nat) (v : Value), L[k]? = some (some v) → ls[k]? = some (.val (Wtv D v))
def lvl (D : mW) (L : mL) : List (Nat × Value) := (List.range L.length).filterMap (fun k => ((L[k]?).getD none).map (fun v => (k, Wtv D v)))
theorem lvl_mem {D : mW} {L : mL} {k : Nat} {w : Value} : (k, w) ∈ lvl D L ↔ ∃ v, L[k]? = some (some v) ∧ w = Wtv D v := by
  unfold lvl
  simp only [List.mem_filterMap, List.mem_range]
  constructor
  · rintro ⟨j, hj, h⟩
    rw [Option.map_eq_some_iff] at h
    obtain ⟨v, hv, he⟩ := h
    simp only [Prod.mk.injEq] at he
    obtain ⟨rfl, rfl⟩ := he
    rw [List.getElem?_eq_getElem hj] at hv ⊢
    simp only [Option.getD_some] at hv
    exact ⟨v, by rw [hv], rfl⟩
  · rintro ⟨v, hv, rfl⟩
    have hk : k < L.length := by
      rcases Nat.lt_or_ge k L.length with q | q
      · exact q
      · rw [List.getElem?_eq_none q] at hv; cases hv
    exact ⟨k, hk, by rw [hv]; rfl⟩
theorem lvR.has {D : mW} {n : Nat} {L : mL} {ls : Array Slot} (h : lvR D n L ls) : lv_has ls n (lvl D L) :=
  ⟨h.1, h.2.2.1, fun q hq => by
    obtain ⟨v, hv, he⟩ := lvl_mem.mp (show (q.1, q.2) ∈ lvl D L from hq)
    rw [he]; exact h.2.2.2 _ _ hv⟩
theorem cat_tv {D : mW} {v : Value} (h : D.2.2.1.category = 1) : (Wtv D v).category = v.category := by
  unfold Wtv
  cases v <;> first | rfl | exact h
theorem isW_iff {v : Value} : isW (some v) = true ↔ v.category = 2 := by
  cases v <;> simp [isW, Value.category]
theorem lvR.store1 {D : mW} {n i : Nat} {L : mL} {v : Value} (hD : D.2.2.1.category = 1) (hn : L.length = n) (hp : prevW L i = false) {ls' : Array Slot}
    (h : lv_has ls' n ((i, Wtv D v) :: (lvl D L).filter (fun q => !(q.1 == i) && !(q.1 + 1 == i && q.2.category == 2)))) : lvR D n (L.set i (some v)) ls' := by
  refine ⟨h.1, by simp [hn], h.2.1, fun k w hk => ?_⟩
  by_cases hki : k = i
  · subst hki
    have hlt : k < L.length := by
      rcases Nat.lt_or_ge k L.length with q | q
      · exact q
      · rw [List.getElem?_eq_none (by simpa using q)] at hk; cases hk
    rw [List.getElem?_set_self hlt] at hk
    cases hk
    exact h.2.2 _ List.mem_cons_self
  · rw [List.getElem?_set_ne (Ne.symm hki)] at hk
    refine h.2.2 (k, Wtv D w) (List.mem_cons_of_mem _ (List.mem_filter.mpr ⟨lvl_mem.mpr ⟨w, hk, rfl⟩, ?_⟩))
    simp only [Bool.and_eq_true, Bool.not_eq_true', beq_eq_false_iff_ne, ne_eq, Bool.and_eq_false_iff]
    refine ⟨hki, ?_⟩
    by_cases hk1 : k + 1 = i
    · subst hk1
      right
      simp only [prevW, hk, Option.getD_some] at hp
      rw [cat_tv hD]
      intro hc
      rw [isW_iff.mpr hc] at hp
      cases hp
    · left; exact hk1
theorem lvR.store2 {D : mW} {n i : Nat} {L : mL} {v : Value} (hD : D.2.2.1.category = 1) (hn : L.length = n) (hp : prevW L i = false) {ls' : Array Slot}
    (h : lv_has ls' n ((i, Wtv D v) :: (lvl D L).filter (fun q => !(q.1 == i) && (!(q.1 == i + 1) && !(q.1 + 1 == i && q.2.category == 2))))) : lvR D n ((L.set i (some v)).set (i + 1) none) ls' := by
  refine ⟨h.1, by simp [hn], h.2.1, fun k w hk => ?_⟩
  by_cases hk1 : k = i + 1
  · subst hk1
    exfalso
    by_cases hlt : i + 1 < L.length
    · rw [List.getElem?_set_self (by simpa using hlt)] at hk; cases hk
    · rw [List.getElem?_eq_none (by simp; omega)] at hk; cases hk
  · rw [List.getElem?_set_ne (Ne.symm hk1)] at hk
    by_cases hki : k = i
    · subst hki
      have hlt : k < L.length := by
        rcases Nat.lt_or_ge k L.length with q | q
        · exact q
        · rw [List.getElem?_eq_none (by simpa using q)] at hk; cases hk
      rw [List.getElem?_set_self hlt] at hk
      cases hk
      exact h.2.2 _ List.mem_cons_self
    · rw [List.getElem?_set_ne (Ne.symm hki)] at hk
      refine h.2.2 (k, Wtv D w) (List.mem_cons_of_mem _ (List.mem_filter.mpr ⟨lvl_mem.mpr ⟨w, hk, rfl⟩, ?_⟩))
      simp only [Bool.and_eq_true, Bool.not_eq_true', beq_eq_false_iff_ne, ne_eq, Bool.and_eq_false_iff]
      refine ⟨hki, hk1, ?_⟩
      by_cases hk2 : k + 1 = i
      · subst hk2
        right
        simp only [prevW, hk, Option.getD_some] at hp
        rw [cat_tv hD]
        intro hc
        rw [isW_iff.mpr hc] at hp
        cases hp
      · left; exact hk2
end lvr
section entry
def slo (D : mW) : Option Value → Slot
  | some v => .val (Wtv D v)
  | none => .second
theorem ents_sl {D : mW} (hD : D.2.2.1.category = 1) : ∀ vs : List Value, lg_sl (vs.map (Wtv D)) = (ents vs).map (slo D) := by
  intro vs
  induction vs with
  | nil => rfl
  | cons v t ih =>
    unfold lg_sl at ih ⊢
    rw [List.map_cons, List.flatMap_cons, ih]
    rw [show ents (v :: t) = (if isW (some v) then some v :: none :: ents t else some v :: ents t) from by rw [ents]]
    by_cases hc : v.category = 2
    · rw [if_pos (by rw [cat_tv hD]; exact hc), if_pos (isW_iff.mpr hc)]
      rfl
    · rw [if_neg (by rw [cat_tv hD]; exact hc), if_neg (fun h => hc (isW_iff.mp h))]
      rfl
theorem lvR.entry {D : mW} (hD : D.2.2.1.category = 1) {vs : List Value} {n : Nat} (h : (ents vs).length ≤ n) :
    lvR D n (ent n vs) ((lg_sl (vs.map (Wtv D)) ++ List.replicate (n - (lg_sl (vs.map (Wtv D))).length) Slot.unset).toArray) := by
  have hl : (lg_sl (vs.map (Wtv D))).length = (ents vs).length := by rw [ents_sl hD]; simp
  have he := lv_entry (vs.map (Wtv D)) (n := n) (by rw [hl]; exact h)
  refine ⟨he.1, by unfold ent; simp; omega, he.2.1, fun k v hk => ?_⟩
  unfold ent at hk
  rw [List.getElem?_toArray, ents_sl hD]
  by_cases hlt : k < (ents vs).length
  · rw [List.getElem?_append_left hlt] at hk
    rw [List.getElem?_append_left (by simpa using hlt), List.getElem?_map, hk]
    rfl
  · rw [List.getElem?_append_right (by omega)] at hk
    rw [List.getElem?_replicate] at hk
    split at hk <;> cases hk
end entry
section ends
variable {p : Program} {l : Launch} {e : Env} {R : Room} {s : State} {m : MethodId} {args : Array Value} {below : List Frame} {meth : Method} {c : Code} {H : Heap} {locs : List Loc} {cells slots : Nat} {Q Q' : State → Prop}
theorem W.mono {g : JFrame} (h : ∀ t, Q t → Q' t) (k : W p l e R s m args below meth c H locs cells slots Q g) : W p l e R s m args below meth c H locs cells slots Q' g := by
  intro T hT X
  obtain ⟨t, a, b⟩ := k T hT X
  exact ⟨t, a, h t b⟩
/-- an end, by return or by throw -/
def MQX (below : List Frame) (Qc : Array Value → State → Outcome → State → Prop) (a : Array Value) (s : State) (mc ms : Nat) (free : Addr → Prop) : State → Prop := fun t =>
  ∃ o, t.status = .running ∧ Ended t below o ∧ Qc a s o t ∧ ∃ L, s.WarmedH t.vm ∧ s.sameButNew ({ t with vm := s.vm } : State) L mc ms ∧ ∀ q ∈ L, free q.base
theorem MQ.toX {Qc : Array Value → State → Outcome → State → Prop} {a : Array Value} {mc ms : Nat} {free : Addr → Prop} {t : State} (h : MQ below Qc a s mc ms free t) : MQX below Qc a s mc ms free t := by
  obtain ⟨o, h1, h2, h3, L, h4, h5⟩ := h
  exact ⟨o, h1, h2, h3, L, h4.2.1, h4.2.2, h5⟩
/-- a contract that may end by a throw -/
def MetX (l : Launch) (y : MethodName) (w : Cond) (rm : Room) (Pc : Array Value → State → Prop) (Qc : Array Value → State → Outcome → State → Prop) (mc ms : Nat) (free : Addr → Prop) : Prop :=
  MetFree l y (headSpec [w] rm) Pc (fun _ _ _ _ _ => True) (fun a st o t => Qc a st o t ∧ ∃ L, st.WarmedH t.vm ∧ st.sameButNew ({ t with vm := st.vm } : State) L mc ms ∧ ∀ q ∈ L, free q.base)
/-- what a method's word says -/
def mFacts (m : Nat) (s : State) (mk : MethodId) (meth : Method) (c : Code) : Prop := s.vm.method? mk = some meth ∧ meth.code = some c ∧ c.code = mCod m ∧ c.maxLocals = mMax m ∧ c.exceptionTable.toList = tableOf (mRaw m) ∧ meth.sig.returnType = mRt m ∧ meth.locks = false ∧ parseMethodDescriptor (mY m).desc = some meth.sig
theorem mWd_spec {m : Nat} {args : Array Value} {s : State} (h : (mWd m).before args s = true) : ∃ mk meth c, s.methodNamed? (mY m) = some mk ∧ mFacts m s mk meth c := by
  unfold mWd at h
  split at h
  · rename_i hr
    obtain ⟨mk, hn⟩ := Cond.code_named h
    obtain ⟨meth, c, h1, h2, h3, h4, h5, h6, h7, h8⟩ := Cond.code_spec hn h
    refine ⟨mk, meth, c, hn, h1, h2, h3, h4, ?_, h5, h6, h8⟩
    rw [hr]
    have : c.exceptionTable = #[] := by simpa using h7
    rw [this]; rfl
  · obtain ⟨mk, meth, c, hn, h1, h2, h3, h4, h5, h6, h7, h8⟩ := Cond.codeWith_spec h
    refine ⟨mk, meth, c, hn, h1, h2, h3, h4, ?_, h6, h7, h8⟩
    rw [← h5]
    exact (table_eq _).symm
end ends
section backx
variable {p : Program} {l : Launch} {e : Env} {R : Room} {s : State} {m : MethodId} {args : Array Value} {below : List Frame} {meth : Method} {c : Code}
/-- the state behind a callee -/
def behind (U t : State) : State := ({ U with heap := t.heap, slotsUsed := t.slotsUsed } : State).setVm t.vm
def BackEnd (p : Program) (e : Env) (below : List Frame) (U B : State) (g : JFrame) (len : Nat) (mk : MethodId) (a : Array Value) : Outcome → Prop
  | .returned v => Steps p.tables e below (doInvoke e (U.setTop g) [] mk a).1 (B.setTop { g with pc := g.pc + len, stack := v.toList ++ g.stack })
  | .threw y => Steps p.tables e below (doInvoke e (U.setTop g) [] mk a).1 ((B.setTop g).pushFrame (.throwing y))
theorem backX {U : State} {Ls : List Loc} {c0 s0 W mm len mc ms : Nat} {rm : Room} {Pc : Array Value → State → Prop} {Qc : Array Value → State → Outcome → State → Prop} {free : Addr → Prop} {g : JFrame} {ig : Instr} {mk : MethodId} {a : Array Value}
    (X : Stand p l e R s m args below meth c U Ls c0 s0) (hg : g.method = m) (hsize : g.locals.size = c.maxLocals) (hdg : decode c.code g.pc = .ok (ig, len))
    (hW : 2 * g.monitorRoom + (g.stack.map fun v => v.category).sum ≤ W) (hn : U.methodNamed? (mY mm) = some mk) (hM : MetX l (mY mm) (mWd mm) rm Pc Qc mc ms free)
    (hframes : rm.frames + 1 ≤ R.frames) (hlocals : W + (mMax mm + 11) + rm.locals ≤ R.locals) (hrc : rm.cells = mc) (hrs : rm.slots = ms) (hcells : c0 + mc ≤ R.cells) (hslots : s0 + ms ≤ R.slots)
    (hw : (mWd mm).before a U = true) (hini : (Cond.initialized (mY mm).cls).before a U = true) (hP : Pc a (U.calling g mk a)) :
    ∃ (o : Outcome) (t : State) (L : List Loc), Qc a (U.calling g mk a) o t ∧ (∀ q ∈ L, free q.base) ∧ U.WarmedH t.vm ∧ Stand p l e R s m args below meth c (behind U t) (Ls ++ L) (c0 + mc) (s0 + ms) ∧ BackEnd p e below U (behind U t) g len mk a o := by
  obtain ⟨mk', methY, cY, hn', hmY, hcY, -, hlY, -, -, -, -⟩ := mWd_spec hw
  cases hn.symm.trans hn'
  obtain ⟨kY, hkY, -⟩ := className_of_methodNamed hn
  have hinitY : kY.init = .initialized := Cond.initialized_spec (findClass_of_methodNamed hn) hkY hini
  have h : At U g.method c below := by rw [hg]; exact X.here
  have hpre : (headSpec [mWd mm] rm).pre.before a U = true := atoms_intro (fun w hw' => by
    rw [List.mem_singleton] at hw'; rw [hw']; exact hw)
  have happ : (headSpec [mWd mm] rm).appliesLoose (mY mm) e.platform (U.calling g mk a) = true :=
    Spec.appliesLoose_calling (g := g) h hdg hn hkY hinitY
      (X.room_calling (g := g) (R' := (headSpec [mWd mm] rm).room) hsize hmY hcY hframes (by rw [hlY]; show _ ≤ _; have : (headSpec [mWd mm] rm).room = rm := rfl; rw [this]; omega) (by show c0 + rm.cells ≤ _; rw [hrc]; exact hcells) (by show s0 + rm.slots ≤ _; rw [hrs]; exact hslots)) hpre
  obtain ⟨mid, hmid⟩ := h.above
  have hfr : (U.setTop g).frames = (.java g :: mid) ++ below := by rw [State.frames_setTop' g h.top, hmid]; rfl
  obtain ⟨o, s₂, hsteps, -, hend, hq⟩ := Steps.callFree hM p X.admits X.cas X.clock (acts := []) hfr happ hP trivial
  obtain ⟨hq', L, hW₂, hsb, hfree⟩ := hq
  rw [State.frames_setTop' g h.top] at hend
  obtain ⟨e2, q2, q3, q4, q5, q6⟩ := id hsb
  have e3 : s₂ = ({ (U.calling g mk a).setFrames s₂.frames with heap := s₂.heap, slotsUsed := s₂.slotsUsed } : State).setVm s₂.vm := by
    have e2' : ({ s₂ with vm := (U.calling g mk a).vm } : State) = ({ (U.calling g mk a).setFrames s₂.frames with heap := s₂.heap, slotsUsed := s₂.slotsUsed } : State) := e2
    have : s₂ = ({ s₂ with vm := (U.calling g mk a).vm } : State).setVm s₂.vm := rfl
    rw [e2'] at this
    exact this
  have hW' : U.WarmedH s₂.vm := hW₂
  obtain ⟨g₀, hg0⟩ := Option.isSome_iff_exists.mp h.top
  obtain ⟨r, hr⟩ := State.topJava?_eq_some.mp hg0
  have hr' : (behind U s₂).frames = .java g₀ :: r := hr
  have hsame : U.sameButNew ({ U with heap := s₂.heap, slotsUsed := s₂.slotsUsed } : State) L mc ms := by
    refine ⟨?_, q2, q3, q4, q5, q6⟩
    obtain ⟨t, ht, -⟩ := State.frames_cons hr
    show ({ U with heap := s₂.heap, slotsUsed := s₂.slotsUsed } : State) = { U.setFrames U.frames with heap := s₂.heap, slotsUsed := s₂.slotsUsed }
    rw [State.setFrames_self ht]
  subst hg
  refine ⟨o, s₂, L, hq', hfree, hW', ⟨X.admits, X.cas, X.clock, X.frames, X.room, X.hears, X.method, X.code, (X.here.setHeapUsed s₂.heap s₂.slotsUsed).setVm hW'.alike, X.tail, State.WarmedH.trans X.warmed hW', X.limits, X.bytes, X.same.trans (hsame.setVm s.vm)⟩, ?_⟩
  cases o with
  | returned v =>
    obtain ⟨c₂, i₂, len₂, hc₂, hd₂, hf₂⟩ := hend
    have hcc : c₂ = c := by
      have h1 : s₂.code? g.method = U.code? g.method := by
        rw [State.code?_eq, State.code?_eq, hW'.alike.method?]
      exact Option.some.inj (hc₂.symm.trans (h1.trans h.code))
    subst hcc
    have hlen : len₂ = len := by rw [hdg] at hd₂; cases hd₂; rfl
    subst hlen
    have hs₂ : s₂ = (behind U s₂).setTop { g with pc := g.pc + len₂, stack := v.toList ++ g.stack } := by
      refine e3.trans ?_
      rw [hf₂, State.calling_eq h.top, State.setFrames_setFrames, State.setTop_of_frames _ hr', hr]
      rfl
    show Steps p.tables e below _ ((behind U s₂).setTop { g with pc := g.pc + len₂, stack := v.toList ++ g.stack })
    rw [← hs₂]
    exact hsteps
  | threw y =>
    have hf₂ : s₂.frames = .throwing y :: .java g :: U.frames.tail := hend
    have hs₂ : s₂ = ((behind U s₂).setTop g).pushFrame (.throwing y) := by
      refine e3.trans ?_
      rw [hf₂, State.calling_eq h.top, State.setFrames_setFrames, State.pushFrame, State.setTop_of_frames _ hr', State.setFrames_setFrames, State.frames_setFrames _ (State.cur_lt_of_frames hr'), hr]
      rfl
    show Steps p.tables e below _ (((behind U s₂).setTop g).pushFrame (.throwing y))
    rw [← hs₂]
    exact hsteps
end backx
