/-! SOUNDNESS, step by step -/
set_option maxRecDepth 100000
def BT (Sta : State) : Prop := ∀ w ∈ lw_tbl, ∃ A : Array Value, w.before A Sta = true
/-- the classes as the tables have them -/
def BC (D : mW) (Sta : State) : Prop := (∀ c, laid c = true → u_Kn Sta (cNm c) (cT c) (cN c) (WdC D c) (WdI D c)) ∧ (∀ c, c = 22 ∨ c = 23 → ClassAt Sta (cNm c) (WdC D c)) ∧
  (Sta.vm.findClass (cNm 25) = some (WdC D 25) ∧ ∃ cf kf fi f, Sta.fieldFound? "java/lang/Enum" "ordinal" "I" = some (cf, kf, fi, f) ∧ f.slot = WdI D 25 0 ∧ f.isStatic = false)
/-- the array classes as the tables have them -/
def BA (D : mW) (Sta : State) : Prop := (∀ t, 50 ≤ t → t ≤ 60 → Sta.vm.findClass ("[" ++ (aty t).toString) = some (WdC D t) ∧ ∃ k comp, Sta.vm.classes[WdC D t]? = some k ∧ k.kind = .array comp (aty t) ∧ ∀ C, aty t = .object C → Sta.vm.findClass C = some comp) ∧ WdC D 62 = WdC D 50 ∧ WdC D 63 = WdC D 56
/-- the statics that are read, the String constants, Object[]'s own Class object, what is not of a class, constants that differ -/
def BS (D : mW) (Sta : State) : Prop := ∀ q ∈ lS, va_Z q.2.2.2.1 q.2.2.2.2.1 q.2.2.2.2.2 (if q.2.2.1 = 100 then .int 1 else if q.2.2.1 = 101 then D.2.2.1 else .ref (Wkr D q.2.2.1)) (fun a => Ws0 D ≤ a) Sta Sta.heap
def BK (D : mW) (Sta : State) : Prop := ∀ q ∈ lKS, vk_R (cNm q.1) q.2.1 q.2.2.2 (Wkr D q.2.2.1) Sta
def BM (D : mW) (Sta : State) : Prop := va_Mi "[Ljava/lang/Object;" (Wkr D 14) Sta
def BN (Sta : State) : Prop := (∀ u, 9 ≤ u → u ≤ 19 → ∀ a, a = 10 ∨ a = 12 → u ≠ a → va_Nc (cNm u) (cNm a) Sta) ∧ va_Nc (cNm 22) (cNm 23) Sta ∧ va_Nc (cNm 23) (cNm 22) Sta
def BI (D : mW) : Prop := (∀ x y, 1 ≤ x → x ≤ 11 → 1 ≤ y → y ≤ 11 → Wkr D x = Wkr D y → x = y) ∧ ¬ Wkr D 12 = Wkr D 13 ∧ ∀ x, 1 ≤ x → x ≤ 13 → Wkr D x < Ws0 D
def Base (D : mW) (Sta : State) : Prop := BT Sta ∧ BC D Sta ∧ BA D Sta ∧ BS D Sta ∧ BK D Sta ∧ BM D Sta ∧ BN Sta ∧ BI D
def Ctx (D : mW) (Sta : State) (p : Program) (e : Env) (s : State) (mi : MethodId) (meth : Method) (c : Code) (m : Nat) : Prop :=
  p.tables.exec = Jvm.exec ∧ c.code = mCod m ∧ c.maxLocals = mMax m ∧ meth.sig.returnType = mRt m ∧ s.vm.findClass (cNm (mOw m)) = some mi.cls ∧ meth.locks = false ∧ Sta.WarmedH s.vm ∧ meth.name = (mY m).name ∧ c.exceptionTable.toList = tableOf (mRaw m) ∧ Ws0 D = Sta.heap.size ∧ Ws0 D ≤ s.heap.size ∧ (∀ q, q < Ws0 D → s.heap[q]? = Sta.heap[q]?) ∧ (e.platform.stackTraces = false ∧ ∀ (q : Nat) (cell : Cell), Ws0 D ≤ q → s.heap[q]? = some cell → cell.vm.isStatics = false) ∧ D.2.2.1.category = 1
/-- arrays that hold objects of our classes -/
def oar (t : Nat) : Bool := t == 56 || t == 63
/-- arrays of chars hold chars; arrays of objects hold objects of our classes; no tag is null's -/
def RepC (G : mG) : Prop := (∀ a k, tg G a = 52 → chr (gI G a k) = true) ∧ (∀ a k b, oar (tg G a) = true → gP G a k = some b → 4 ≤ tg G b ∧ tg G b ≤ 19) ∧ (∀ a, ¬ tg G a = 99) ∧ ∀ a, 64 ≤ a → a < nx G → ¬ tg G a = 0
theorem RepC.put {G G' : mG} {s a b : Nat} {w : Value} (h : RepC G) (hs : tg G a = 52 → s = 5) (ho : oar (tg G a) = true → s = 3 ∧ ∀ x, w = .ref x → 4 ≤ tg G x ∧ tg G x ≤ 19) (hp : pv G s a b w = some G') : RepC G' := by
  have e1 := (pv_spec hp).1
  refine ⟨?_, ?_, fun x => by rw [e1]; exact h.2.2.1 x, fun x h1 h2 => by rw [e1]; rw [(pv_spec hp).2.2.1] at h2; exact h.2.2.2 x h1 h2⟩
  · intro x k hx
    rw [e1] at hx
    by_cases hxk : x = a ∧ k = b
    · obtain ⟨rfl, rfl⟩ := hxk
      have := hs hx
      subst this
      cases w <;> simp only [pv] at hp <;> first | (cases hp; done) | skip
      split at hp
      · rename_i z hz
        cases hp
        simp [gI, sI, u2, hz]
      · cases hp
    · have h2 : gv G' 0 x k = gv G 0 x k := (pv_spec hp).2.2.2.2.2 0 x k (by omega)
      simp only [gv, Value.int.injEq] at h2
      rw [h2]; exact h.1 x k hx
  · intro x k y hx hy
    rw [e1] at hx ⊢
    by_cases hxk : x = a ∧ k = b
    · obtain ⟨rfl, rfl⟩ := hxk
      obtain ⟨rfl, hw⟩ := ho hx
      have h2 : gv G' 3 x k = w := (pv_spec hp).2.2.2.2.1
      simp only [gv, hy, rv] at h2
      exact hw y h2.symm
    · have h2 : gv G' 3 x k = gv G 3 x k := (pv_spec hp).2.2.2.2.2 3 x k (by omega)
      simp only [gv] at h2
      rw [hy] at h2
      refine h.2.1 x k y hx ?_
      cases hq : gP G x k with
      | none => rw [hq] at h2; cases h2
      | some z => rw [hq] at h2; simp only [rv, Value.ref.injEq] at h2; rw [h2]
theorem RepC.alloc {G : mG} {t n w : Nat} (h : RepC G) (hz : tg G (nx G) = 0) (ht : ¬ t = 99 ∧ ¬ t = 0) : RepC (al G t n w) := by
  refine ⟨?_, ?_, fun x => by rw [al_tg]; split; exact ht.1; exact h.2.2.1 x, fun x h1 h2 => by
    rw [al_nx] at h2
    rw [al_tg]
    split
    · exact ht.2
    · exact h.2.2.2 x h1 (by omega)⟩
  · intro x k hx
    rw [al_tg] at hx
    by_cases hn : x = nx G
    · subst hn
      have : gI (al G t n w) (nx G) k = 0 := by simp [gI, al, u1]
      rw [this]; rfl
    · rw [if_neg hn] at hx
      have : gI (al G t n w) x k = gI G x k := by simp [gI, al, u1, hn]
      rw [this]; exact h.1 x k hx
  · intro x k y hx hy
    rw [al_tg] at hx
    by_cases hn : x = nx G
    · subst hn
      have : gP (al G t n w) (nx G) k = none := by simp [gP, al, u1]
      rw [this] at hy; cases hy
    · rw [if_neg hn] at hx
      have : gP (al G t n w) x k = gP G x k := by simp [gP, al, u1, hn]
      rw [this] at hy
      have h3 := h.2.1 x k y hx hy
      rw [al_tg, if_neg (by intro q; subst q; omega)]
      exact h3
theorem Rep.nx0 {D : mW} {H0 : Heap} {G : mG} {H : Heap} (h : Rep D H0 G H) : tg G (nx G) = 0 := by
  by_cases q : tg G (nx G) = 0
  · exact q
  · exact absurd (h.2.2.1 _ q).1 (by omega)
/-- from this configuration the machine comes to Q -/
def Gd (D : mW) (Sta : State) (p : Program) (l : Launch) (e : Env) (R : Room) (s : State) (mi : MethodId) (args : Array Value) (below : List Frame) (meth : Method) (c : Code) (n0 u0 : Nat) (Q : State → Prop) (x : mC) : Prop :=
  ∀ (H : Heap) (locs : List Loc) (ls : Array Slot), Rep D Sta.heap x.2.2.2.2.2 H → RepC x.2.2.2.2.2 → lvR D (mMax x.2.1) x.2.2.2.1 ls → (∀ q ∈ locs, Ws0 D ≤ q.base) → W p l e R s mi args below meth c H locs (nx x.2.2.2.2.2 - n0) (us x.2.2.2.2.2 - u0) Q (F0 mi x.2.2.1 ls (x.2.2.2.2.1.map (Wtv D)))
section step
variable {D : mW} {Sta : State} {p : Program} {l : Launch} {e : Env} {R : Room} {s : State} {mi : MethodId} {args : Array Value} {below : List Frame} {meth : Method} {c : Code} {n0 u0 : Nat} {Q : State → Prop}
theorem Ctx.wd {m : Nat} (hC : Ctx D Sta p e s mi meth c m) (hB : BT Sta) {w : Cond} (hw : w ∈ lw_tbl) (hk : okw w = true) : w.before args s = true := by
  obtain ⟨A, h⟩ := hB w hw
  exact wat hC.2.2.2.2.2.2.1 hk h
theorem inb_iff {i : Int32} {n : Nat} : inb i n = true ↔ 0 ≤ i.toInt ∧ i.toInt < n := by
  unfold inb; simp
theorem inb_in {i : Int32} {n : Nat} (h : inb i n = true) : ¬ (i < 0 ∨ n ≤ i.toNatClampNeg) ∧ i.toNatClampNeg < n := by
  have h1 : vp_in i n := vp_in_iff.mpr (inb_iff.mp h)
  exact ⟨h1, by
    rcases Nat.lt_or_ge i.toNatClampNeg n with q | q
    · exact q
    · exact absurd (Or.inr q) h1⟩
theorem cat1 {v : Value} (hD : D.2.2.1.category = 1) (h : isW (some v) = false) : (Wtv D v).category = 1 := by
  rw [cat_tv hD]
  cases v <;> first | rfl | cases h
end step
