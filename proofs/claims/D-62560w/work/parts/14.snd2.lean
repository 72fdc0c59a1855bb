/-! SOUNDNESS: fields -/
set_option maxRecDepth 100000
def FLp (q : Nat × Nat × Nat × Nat × Nat) : Prop := Cond.fieldLink (cNm q.1) q.2.1 (cT q.2.2.1 q.2.2.2.1).1 (cT q.2.2.1 q.2.2.2.1).2.1 (cT q.2.2.1 q.2.2.2.1).2.2.1 ∈ lw_tbl
def lFf0 : List (Nat × Nat × Nat × Nat × Nat) := [(19, 13, 19, 1, 3), (19, 7, 19, 0, 3), (13, 15, 13, 0, 3), (13, 19, 13, 1, 0), (13, 22, 13, 2, 4), (13, 26, 13, 3, 3), (17, 15, 17, 1, 3), (17, 18, 17, 2, 3), (17, 9, 17, 0, 3), (18, 15, 18, 1, 3), (18, 9, 18, 0, 3), (5, 13, 5, 1, 0), (5, 7, 5, 0, 0), (9, 10, 9, 0, 3), (16, 15, 16, 1, 3), (16, 19, 16, 2, 3), (16, 9, 16, 0, 4), (6, 13, 6, 1, 3), (6, 17, 6, 2, 0), (6, 20, 6, 3, 0), (6, 7, 6, 0, 0), (10, 9, 10, 0, 0), (15, 13, 15, 1, 3), (15, 17, 15, 2, 3), (15, 7, 15, 0, 3), (12, 15, 12, 1, 0), (12, 19, 12, 2, 4), (12, 9, 12, 0, 3), (2, 15, 2, 2, 3), (2, 19, 2, 3, 3), (2, 22, 2, 4, 3), (2, 27, 2, 9, 3), (2, 31, 2, 10, 3), (2, 36, 2, 11, 3), (2, 9, 2, 0, 3), (14, 15, 14, 1, 4), (14, 9, 14, 0, 3), (7, 11, 7, 1, 3), (7, 17, 7, 0, 3), (4, 14, 4, 2, 3)]
theorem lFf0_ok : ∀ q ∈ lFf0, FLp q := List.forall_mem_cons.mpr ⟨(lw_at lw_m5 9 rfl : FLp (19, 13, 19, 1, 3)), List.forall_mem_cons.mpr ⟨(lw_at lw_m5 8 rfl : FLp (19, 7, 19, 0, 3)), List.forall_mem_cons.mpr ⟨(lw_at lw_m4 44 rfl : FLp (13, 15, 13, 0, 3)), List.forall_mem_cons.mpr ⟨(lw_at lw_m4 45 rfl : FLp (13, 19, 13, 1, 0)), List.forall_mem_cons.mpr ⟨(lw_at lw_m4 46 rfl : FLp (13, 22, 13, 2, 4)), List.forall_mem_cons.mpr ⟨(lw_at lw_m4 47 rfl : FLp (13, 26, 13, 3, 3)), List.forall_mem_cons.mpr ⟨(lw_at lw_m4 233 rfl : FLp (17, 15, 17, 1, 3)), List.forall_mem_cons.mpr ⟨(lw_at lw_m4 234 rfl : FLp (17, 18, 17, 2, 3)), List.forall_mem_cons.mpr ⟨(lw_at lw_m4 232 rfl : FLp (17, 9, 17, 0, 3)), List.forall_mem_cons.mpr ⟨(lw_at lw_m4 220 rfl : FLp (18, 15, 18, 1, 3)), List.forall_mem_cons.mpr ⟨(lw_at lw_m4 219 rfl : FLp (18, 9, 18, 0, 3)), List.forall_mem_cons.mpr ⟨(lw_at lw_m5 150 rfl : FLp (5, 13, 5, 1, 0)), List.forall_mem_cons.mpr ⟨(lw_at lw_m5 149 rfl : FLp (5, 7, 5, 0, 0)), List.forall_mem_cons.mpr ⟨(lw_at lw_m4 93 rfl : FLp (9, 10, 9, 0, 3)), List.forall_mem_cons.mpr ⟨(lw_at lw_m4 174 rfl : FLp (16, 15, 16, 1, 3)), List.forall_mem_cons.mpr ⟨(lw_at lw_m4 175 rfl : FLp (16, 19, 16, 2, 3)), List.forall_mem_cons.mpr ⟨(lw_at lw_m4 173 rfl : FLp (16, 9, 16, 0, 4)), List.forall_mem_cons.mpr ⟨(lw_at lw_m5 171 rfl : FLp (6, 13, 6, 1, 3)), List.forall_mem_cons.mpr ⟨(lw_at lw_m5 174 rfl : FLp (6, 17, 6, 2, 0)), List.forall_mem_cons.mpr ⟨(lw_at lw_m5 176 rfl : FLp (6, 20, 6, 3, 0)), List.forall_mem_cons.mpr ⟨(lw_at lw_m5 169 rfl : FLp (6, 7, 6, 0, 0)), List.forall_mem_cons.mpr ⟨(lw_at lw_m3 231 rfl : FLp (10, 9, 10, 0, 0)), List.forall_mem_cons.mpr ⟨(lw_at lw_m4 190 rfl : FLp (15, 13, 15, 1, 3)), List.forall_mem_cons.mpr ⟨(lw_at lw_m4 191 rfl : FLp (15, 17, 15, 2, 3)), List.forall_mem_cons.mpr ⟨(lw_at lw_m4 189 rfl : FLp (15, 7, 15, 0, 3)), List.forall_mem_cons.mpr ⟨(lw_at lw_m4 76 rfl : FLp (12, 15, 12, 1, 0)), List.forall_mem_cons.mpr ⟨(lw_at lw_m4 77 rfl : FLp (12, 19, 12, 2, 4)), List.forall_mem_cons.mpr ⟨(lw_at lw_m4 75 rfl : FLp (12, 9, 12, 0, 3)), List.forall_mem_cons.mpr ⟨(lw_at lw_m1 66 rfl : FLp (2, 15, 2, 2, 3)), List.forall_mem_cons.mpr ⟨(lw_at lw_m1 67 rfl : FLp (2, 19, 2, 3, 3)), List.forall_mem_cons.mpr ⟨(lw_at lw_m1 68 rfl : FLp (2, 22, 2, 4, 3)), List.forall_mem_cons.mpr ⟨(lw_at lw_m1 74 rfl : FLp (2, 27, 2, 9, 3)), List.forall_mem_cons.mpr ⟨(lw_at lw_m1 75 rfl : FLp (2, 31, 2, 10, 3)), List.forall_mem_cons.mpr ⟨(lw_at lw_m1 76 rfl : FLp (2, 36, 2, 11, 3)), List.forall_mem_cons.mpr ⟨(lw_at lw_m1 62 rfl : FLp (2, 9, 2, 0, 3)), List.forall_mem_cons.mpr ⟨(lw_at lw_m4 133 rfl : FLp (14, 15, 14, 1, 4)), List.forall_mem_cons.mpr ⟨(lw_at lw_m4 132 rfl : FLp (14, 9, 14, 0, 3)), List.forall_mem_cons.mpr ⟨(lw_at lw_m5 204 rfl : FLp (7, 11, 7, 1, 3)), List.forall_mem_cons.mpr ⟨(lw_at lw_m5 201 rfl : FLp (7, 17, 7, 0, 3)), List.forall_mem_cons.mpr ⟨(lw_at lw_m5 107 rfl : FLp (4, 14, 4, 2, 3)), fun _ h => absurd h List.not_mem_nil⟩⟩⟩⟩⟩⟩⟩⟩⟩⟩⟩⟩⟩⟩⟩⟩⟩⟩⟩⟩⟩⟩⟩⟩⟩⟩⟩⟩⟩⟩⟩⟩⟩⟩⟩⟩⟩⟩⟩⟩
def lFf1 : List (Nat × Nat × Nat × Nat × Nat) := [(4, 20, 4, 3, 3), (4, 23, 4, 0, 0), (4, 27, 4, 1, 3), (3, 9, 3, 3, 3), (8, 10, 8, 1, 3), (8, 16, 8, 0, 0), (1, 10, 1, 0, 3), (1, 19, 1, 1, 3), (1, 26, 1, 2, 3), (1, 29, 1, 3, 3), (1, 32, 1, 4, 3), (1, 37, 1, 5, 3), (1, 42, 1, 7, 3), (1, 47, 1, 12, 3), (1, 51, 1, 13, 3), (21, 102, 21, 46, 3), (21, 105, 21, 48, 3), (21, 108, 21, 50, 3), (21, 111, 21, 51, 3), (21, 114, 21, 52, 3), (21, 117, 21, 53, 3), (21, 120, 21, 54, 3), (21, 124, 21, 58, 3), (21, 13, 21, 4, 3), (21, 16, 21, 5, 3), (21, 19, 21, 6, 3), (21, 23, 21, 7, 3), (21, 26, 21, 11, 3), (21, 29, 21, 12, 3), (21, 32, 21, 13, 3), (21, 35, 21, 20, 3), (21, 38, 21, 21, 3), (21, 41, 21, 22, 3), (21, 44, 21, 23, 3), (21, 47, 21, 24, 3), (21, 50, 21, 25, 3), (21, 53, 21, 26, 3), (21, 57, 21, 27, 3), (21, 60, 21, 28, 3), (21, 63, 21, 30, 3)]
theorem lFf1_ok : ∀ q ∈ lFf1, FLp q := List.forall_mem_cons.mpr ⟨(lw_at lw_m5 109 rfl : FLp (4, 20, 4, 3, 3)), List.forall_mem_cons.mpr ⟨(lw_at lw_m5 102 rfl : FLp (4, 23, 4, 0, 0)), List.forall_mem_cons.mpr ⟨(lw_at lw_m5 105 rfl : FLp (4, 27, 4, 1, 3)), List.forall_mem_cons.mpr ⟨(lw_at lw_m3 1 rfl : FLp (3, 9, 3, 3, 3)), List.forall_mem_cons.mpr ⟨(lw_at lw_m7 24 rfl : FLp (8, 10, 8, 1, 3)), List.forall_mem_cons.mpr ⟨(lw_at lw_m7 22 rfl : FLp (8, 16, 8, 0, 0)), List.forall_mem_cons.mpr ⟨(lw_at lw_m3 18 rfl : FLp (1, 10, 1, 0, 3)), List.forall_mem_cons.mpr ⟨(lw_at lw_m3 19 rfl : FLp (1, 19, 1, 1, 3)), List.forall_mem_cons.mpr ⟨(lw_at lw_m3 20 rfl : FLp (1, 26, 1, 2, 3)), List.forall_mem_cons.mpr ⟨(lw_at lw_m3 22 rfl : FLp (1, 29, 1, 3, 3)), List.forall_mem_cons.mpr ⟨(lw_at lw_m3 23 rfl : FLp (1, 32, 1, 4, 3)), List.forall_mem_cons.mpr ⟨(lw_at lw_m3 24 rfl : FLp (1, 37, 1, 5, 3)), List.forall_mem_cons.mpr ⟨(lw_at lw_m3 27 rfl : FLp (1, 42, 1, 7, 3)), List.forall_mem_cons.mpr ⟨(lw_at lw_m3 38 rfl : FLp (1, 47, 1, 12, 3)), List.forall_mem_cons.mpr ⟨(lw_at lw_m3 39 rfl : FLp (1, 51, 1, 13, 3)), List.forall_mem_cons.mpr ⟨(lw_at lw_m7 123 rfl : FLp (21, 102, 21, 46, 3)), List.forall_mem_cons.mpr ⟨(lw_at lw_m7 125 rfl : FLp (21, 105, 21, 48, 3)), List.forall_mem_cons.mpr ⟨(lw_at lw_m7 127 rfl : FLp (21, 108, 21, 50, 3)), List.forall_mem_cons.mpr ⟨(lw_at lw_m7 128 rfl : FLp (21, 111, 21, 51, 3)), List.forall_mem_cons.mpr ⟨(lw_at lw_m7 129 rfl : FLp (21, 114, 21, 52, 3)), List.forall_mem_cons.mpr ⟨(lw_at lw_m7 130 rfl : FLp (21, 117, 21, 53, 3)), List.forall_mem_cons.mpr ⟨(lw_at lw_m7 131 rfl : FLp (21, 120, 21, 54, 3)), List.forall_mem_cons.mpr ⟨(lw_at lw_m7 135 rfl : FLp (21, 124, 21, 58, 3)), List.forall_mem_cons.mpr ⟨(lw_at lw_m7 81 rfl : FLp (21, 13, 21, 4, 3)), List.forall_mem_cons.mpr ⟨(lw_at lw_m7 82 rfl : FLp (21, 16, 21, 5, 3)), List.forall_mem_cons.mpr ⟨(lw_at lw_m7 83 rfl : FLp (21, 19, 21, 6, 3)), List.forall_mem_cons.mpr ⟨(lw_at lw_m7 84 rfl : FLp (21, 23, 21, 7, 3)), List.forall_mem_cons.mpr ⟨(lw_at lw_m7 88 rfl : FLp (21, 26, 21, 11, 3)), List.forall_mem_cons.mpr ⟨(lw_at lw_m7 89 rfl : FLp (21, 29, 21, 12, 3)), List.forall_mem_cons.mpr ⟨(lw_at lw_m7 90 rfl : FLp (21, 32, 21, 13, 3)), List.forall_mem_cons.mpr ⟨(lw_at lw_m7 97 rfl : FLp (21, 35, 21, 20, 3)), List.forall_mem_cons.mpr ⟨(lw_at lw_m7 98 rfl : FLp (21, 38, 21, 21, 3)), List.forall_mem_cons.mpr ⟨(lw_at lw_m7 99 rfl : FLp (21, 41, 21, 22, 3)), List.forall_mem_cons.mpr ⟨(lw_at lw_m7 100 rfl : FLp (21, 44, 21, 23, 3)), List.forall_mem_cons.mpr ⟨(lw_at lw_m7 101 rfl : FLp (21, 47, 21, 24, 3)), List.forall_mem_cons.mpr ⟨(lw_at lw_m7 102 rfl : FLp (21, 50, 21, 25, 3)), List.forall_mem_cons.mpr ⟨(lw_at lw_m7 103 rfl : FLp (21, 53, 21, 26, 3)), List.forall_mem_cons.mpr ⟨(lw_at lw_m7 104 rfl : FLp (21, 57, 21, 27, 3)), List.forall_mem_cons.mpr ⟨(lw_at lw_m7 105 rfl : FLp (21, 60, 21, 28, 3)), List.forall_mem_cons.mpr ⟨(lw_at lw_m7 107 rfl : FLp (21, 63, 21, 30, 3)), fun _ h => absurd h List.not_mem_nil⟩⟩⟩⟩⟩⟩⟩⟩⟩⟩⟩⟩⟩⟩⟩⟩⟩⟩⟩⟩⟩⟩⟩⟩⟩⟩⟩⟩⟩⟩⟩⟩⟩⟩⟩⟩⟩⟩⟩⟩
def lFf2 : List (Nat × Nat × Nat × Nat × Nat) := [(21, 66, 21, 31, 3), (21, 69, 21, 32, 3), (21, 7, 21, 2, 3), (21, 72, 21, 36, 3), (21, 75, 21, 37, 3), (21, 78, 21, 38, 3), (21, 81, 21, 39, 3), (21, 84, 21, 40, 3), (21, 87, 21, 41, 3), (21, 90, 21, 42, 3), (21, 93, 21, 43, 3), (21, 96, 21, 44, 3), (21, 99, 21, 45, 3), (24, 15, 24, 1, 6), (24, 9, 24, 0, 3)]
theorem lFf2_ok : ∀ q ∈ lFf2, FLp q := List.forall_mem_cons.mpr ⟨(lw_at lw_m7 108 rfl : FLp (21, 66, 21, 31, 3)), List.forall_mem_cons.mpr ⟨(lw_at lw_m7 109 rfl : FLp (21, 69, 21, 32, 3)), List.forall_mem_cons.mpr ⟨(lw_at lw_m7 79 rfl : FLp (21, 7, 21, 2, 3)), List.forall_mem_cons.mpr ⟨(lw_at lw_m7 113 rfl : FLp (21, 72, 21, 36, 3)), List.forall_mem_cons.mpr ⟨(lw_at lw_m7 114 rfl : FLp (21, 75, 21, 37, 3)), List.forall_mem_cons.mpr ⟨(lw_at lw_m7 115 rfl : FLp (21, 78, 21, 38, 3)), List.forall_mem_cons.mpr ⟨(lw_at lw_m7 116 rfl : FLp (21, 81, 21, 39, 3)), List.forall_mem_cons.mpr ⟨(lw_at lw_m7 117 rfl : FLp (21, 84, 21, 40, 3)), List.forall_mem_cons.mpr ⟨(lw_at lw_m7 118 rfl : FLp (21, 87, 21, 41, 3)), List.forall_mem_cons.mpr ⟨(lw_at lw_m7 119 rfl : FLp (21, 90, 21, 42, 3)), List.forall_mem_cons.mpr ⟨(lw_at lw_m7 120 rfl : FLp (21, 93, 21, 43, 3)), List.forall_mem_cons.mpr ⟨(lw_at lw_m7 121 rfl : FLp (21, 96, 21, 44, 3)), List.forall_mem_cons.mpr ⟨(lw_at lw_m7 122 rfl : FLp (21, 99, 21, 45, 3)), List.forall_mem_cons.mpr ⟨(lw_at lw_m2 204 rfl : FLp (24, 15, 24, 1, 6)), List.forall_mem_cons.mpr ⟨(lw_at lw_m2 203 rfl : FLp (24, 9, 24, 0, 3)), fun _ h => absurd h List.not_mem_nil⟩⟩⟩⟩⟩⟩⟩⟩⟩⟩⟩⟩⟩⟩⟩
def lFf : List (Nat × Nat × Nat × Nat × Nat) := lFf0 ++ lFf1 ++ lFf2
theorem lFf_ok : ∀ q ∈ lFf, FLp q := by
  intro q h
  simp only [lFf, List.mem_append] at h
  rcases h with (h | h) | h
  · exact lFf0_ok q h
  · exact lFf1_ok q h
  · exact lFf2_ok q h
theorem lFf_all : lF.all (fun q => !(q.1 == q.2.2.1 && (cT q.2.2.1 q.2.2.2.1).2.2.2) || lFf.elem q) = true := by decide +kernel
theorem cN_26 {a b : Nat} (h : b < cN a) : a < 26 := by
  rcases Nat.lt_or_ge a 26 with q | q
  · exact q
  · exfalso
    unfold cN at h
    rw [List.getD_eq_getElem?_getD, List.getElem?_eq_none (show cFs.length ≤ a from q)] at h
    exact absurd h (Nat.not_lt_zero _)
theorem cN_cls : ∀ a, a < 26 → 0 < cN a → (laid a = true ∨ a = 25) ∧ asrt a = 9 ∧ ¬ a = 0 := by decide +kernel
theorem fin_ok : ∀ m, m < mNum → (mTs.getD m []).all (fun q => q.2.1 != 33 || !(cT q.2.2.2.1 q.2.2.2.2.1).2.2.2 || (mY m).name == "<init>") = true := by decide +kernel
theorem cst_obj : ∀ a, a < 26 → laid a = true → a ≤ 21 → cst a = false := by decide +kernel
theorem fty_ok : ∀ a, a < 26 → ∀ k, k < cN a → ∃ ty, parseFieldDescriptor (cT a k).2.2.1 = some ty ∧ srt ty = cS a k := by
  have h : ∀ a, a < 26 → ∀ k, k < cN a → ((parseFieldDescriptor (cT a k).2.2.1).map srt) = some (cS a k) := by decide +kernel
  intro a ha k hk
  have := h a ha k hk
  rw [Option.map_eq_some_iff] at this
  exact this
theorem fnm_ok : ∀ a, a < 26 → ∀ k, k < cN a → ∀ j, j < cN a → k ≠ j → (cT a k).2.1 ≠ (cT a j).2.1 := by decide +kernel
section fields
variable {D : mW} {Sta : State} {p : Program} {l : Launch} {e : Env} {R : Room} {s : State} {mi : MethodId} {args : Array Value} {below : List Frame} {meth : Method} {c : Code} {n0 u0 : Nat} {Q : State → Prop}
theorem Ctx.hts {m : Nat} (hC : Ctx D Sta p e s mi meth c m) (hB : BT Sta) : ∀ w ∈ lw_all, w.before args s = true := fun w h => hC.wd hB (lw_all_tbl h) (by
  have : goodWord w = true := (List.mem_filter.mp h).2
  unfold okw; rw [this]; rfl)
theorem Ctx.kn {m a : Nat} (hC : Ctx D Sta p e s mi meth c m) (hBC : BC D Sta) (h : laid a = true) : u_Kn s (cNm a) (cT a) (cN a) (WdC D a) (WdI D a) := u_Kn_moved hC.2.2.2.2.2.2.1.alike (hBC.1 a h)
/-- a field of a known class -/
theorem fknown {m a b : Nat} (hB : BT Sta) (hBC : BC D Sta) (hC : Ctx D Sta p e s mi meth c m) (h : b < cN a) : ∃ cf kf fi f, s.fieldFound? (cT a b).1 (cT a b).2.1 (cT a b).2.2.1 = some (cf, kf, fi, f) ∧ f.slot = WdI D a b ∧ f.isStatic = false := by
  rcases (cN_cls a (cN_26 h) (by omega)).1 with q | q
  · obtain ⟨hS, hfc, kC, hkC, hkind⟩ := hC.kn hBC q
    obtain ⟨cf, kf, fi, f, hi, hsl⟩ := hS b h
    exact ⟨cf, kf, fi, f, hi, hsl, (u_facts hfc hkC (u_lays (args := (#[] : Array Value)) (hC.hts hB) (cw a q) h) hi).1⟩
  · subst q
    have hb : b = 0 := by have : cN 25 = 1 := by decide
                          omega
    subst hb
    obtain ⟨-, -, -, cf, kf, fi, f, hi, hsl, hst⟩ := hBC
    obtain ⟨kf', hi', -⟩ := State.fieldFound?_setVm (s := Sta) hC.2.2.2.2.2.2.1.alike hi
    have h5 : s.fieldFound? "java/lang/Enum" "ordinal" "I" = some (cf, kf', fi, f) := by simpa only [State.fieldFound?, State.vm_setVm] using hi'
    exact ⟨cf, kf', fi, f, h5, hsl, hst⟩
theorem g_getfield {m pc x a b c' xa : Nat} {r : List Value} {G : mG} {H : Heap} {locs : List Loc} {ls : Array Slot} {cells slots : Nat} (hB : BT Sta) (hBC : BC D Sta) (hC : Ctx D Sta p e s mi meth c m)
    (hF : FLw (mOw m, x, a, b, c')) (hR : Rep D Sta.heap G H) (ht : tg G xa = a) (hdec : decode (mCod m) pc = .ok (.getfield x, 3))
    (hk : W p l e R s mi args below meth c H locs cells slots Q (F0 mi (pc + 3) ls (Wtv D (gv G c' xa b) :: r))) :
    W p l e R s mi args below meth c H locs cells slots Q (F0 mi pc ls (Wtv D (.ref xa) :: r)) := by
  obtain ⟨hx, hb, hml, hr, hown, hlocks, hW, hnm, htab, hs0, hs0', hfro, htr, hD⟩ := id hC
  obtain ⟨h1, h2, h3⟩ := hF
  dsimp only at h1 h2 h3
  obtain ⟨-, h9, hne⟩ := cN_cls a (cN_26 h2) (by omega)
  obtain ⟨cf, kf, fi, f, hi, hsl, hst⟩ := fknown hB hBC hC h2
  obtain ⟨-, cell, hcell, k1, k2, k3, k4, k5, k6⟩ := hR.2.2.1 xa (by rw [ht]; exact hne)
  have hslot : cell.slots[f.slot]? = some (Wtv D (gv G c' xa b)) := by
    rw [hsl, ← h1]
    have := k5 (by rw [ht]; exact h9) b (by rw [ht]; exact h2)
    rw [ht] at this
    exact this
  rcases h3 with ⟨host, hw⟩ | hw | ⟨ref, hw, hsf⟩
  · exact va_Wgetf hx hb hown (hC.wd hB hw rfl) hi hst hcell k2 hslot rfl rfl hdec hk
  · exact W.getf hx hb hown (hC.wd hB hw rfl) hi hst hcell k2 hslot rfl rfl hdec hk
  · exact W.getf hx hb hown (hC.wd hB hw rfl) (u_same (args := args) (hC.wd hB hsf rfl) _ hi) hst hcell k2 hslot rfl rfl hdec hk
theorem g_putfield {m pc x a b c' xa : Nat} {w : Value} {r : List Value} {G G' : mG} {H : Heap} {locs : List Loc} {ls : Array Slot} {cells slots : Nat} (hB : BT Sta) (hBC : BC D Sta) (hC : Ctx D Sta p e s mi meth c m)
    (hF : FLw (mOw m, x, a, b, c')) (hFm : (mOw m, x, a, b, c') ∈ lF) (hla : laid a = true) (h21 : a ≤ 21) (hfin : (cT a b).2.2.2 = true → a = mOw m ∧ (mY m).name = "<init>") (hR : Rep D Sta.heap G H) (ht : tg G xa = a) (hp : pv G c' xa b w = some G') (hl : ∀ q ∈ locs, Ws0 D ≤ q.base)
    (hdec : decode (mCod m) pc = .ok (.putfield x, 3))
    (hk : ∀ (H' : Heap) (locs' : List Loc), Rep D Sta.heap G' H' → (∀ q ∈ locs', Ws0 D ≤ q.base) → W p l e R s mi args below meth c H' locs' cells slots Q (F0 mi (pc + 3) ls r)) :
    W p l e R s mi args below meth c H locs cells slots Q (F0 mi pc ls (Wtv D w :: Wtv D (.ref xa) :: r)) := by
  obtain ⟨hx, hb, hml, hr, hown, hlocks, hW, hnm, htab, hs0, hs0', hfro, htr, hD⟩ := id hC
  obtain ⟨h1, h2, h3⟩ := hF
  dsimp only at h1 h2 h3
  have h26 := cN_26 h2
  obtain ⟨-, h9, hne⟩ := cN_cls a h26 (by omega)
  have hts : ∀ w ∈ lw_all, w.before args s = true := hC.hts hB
  obtain ⟨hS, hfc, kC, hkC, hkind⟩ := hC.kn hBC hla
  obtain ⟨cf, kf, fi, f, hi, hsl⟩ := hS b h2
  have hst := (u_facts hfc hkC (u_lays hts (cw a hla) h2) hi).1
  obtain ⟨-, cell, hcell, hok⟩ := hR.2.2.1 xa (by rw [ht]; exact hne)
  obtain ⟨k1, k2, k3, k4, k5, k6⟩ := id hok
  have hmut := cst_obj a h26 hla h21
  have hhi : 64 ≤ xa := hR.hi (by rw [ht]; exact hmut)
  have hvm : cell.vm = .none := k1 hhi
  have hcls : cell.cls = WdC D a := by rw [k4, ht]
  have hlt : WdI D a b < cell.slots.size := by
    have := k5 (by rw [ht]; exact h9) b (by rw [ht]; exact h2)
    rw [ht] at this
    exact (Array.getElem?_eq_some_iff.mp this).1
  obtain ⟨ty, hty, hsrt⟩ := fty_ok a h26 b h2
  obtain ⟨hnar, hfits⟩ := fit_of (D := D) hp (hsrt.trans h1)
  have hap : ∀ k, k < cN a → k ≠ b → WdI D a k ≠ WdI D a b := by
    intro k hk1 hkb
    obtain ⟨_, _, _, fa, hia, ea⟩ := hS k hk1
    rw [← ea, ← hsl]
    obtain ⟨tk, htk, -⟩ := fty_ok a h26 k hk1
    refine u_apart (u_lays hts (cw a hla) hk1) (u_lays hts (cw a hla) h2) hia hi ?_
    rw [(State.fieldFound?_type hia htk).1, (State.fieldFound?_type hi hty).1]
    exact fnm_ok a h26 k hk1 b h2 hkb
  have hfree : Ws0 D ≤ Wra D xa := by rw [Wra_hi hhi]; omega
  have fin : ∀ H' : Heap, H'[Wra D xa]? = some (cell.setSlot f.slot (Wtv D w)) → H'.size = H.size → (∀ q, q ≠ Wra D xa → H'[q]? = H[q]?) → W p l e R s mi args below meth c H' (locs ++ [⟨Wra D xa, f.slot⟩]) cells slots Q (F0 mi (pc + 3) ls r) := by
    intro H' e1 e2 e3
    refine hk H' _ ?_ ?_
    · rw [hsl] at e1
      refine hR.putO ht h9 hmut (by rw [h1]; exact hp) hap hok hlt e1 e2 e3
    · intro q hq
      rcases List.mem_append.mp hq with q1 | q1
      · exact hl q q1
      · rw [List.mem_singleton] at q1
        subst q1
        exact hfree
  have hlay := hts _ (cw a hla _ (u_in_lay h2))
  unfold u_lay at hlay
  by_cases hf : (cT a b).2.2.2 = true
  · rw [if_pos hf] at hlay
    obtain ⟨hao, hin⟩ := hfin hf
    have hdecl : (cT a b).1 = cNm (mOw m) := by
      rw [← hao]
      have hz : ∀ a, a < 26 → ∀ b, b < cN a → (cT a b).2.2.2 = true → a ≤ 21 → (cT a b).1 = cNm a := by decide +kernel
      exact hz a h26 b h2 hf h21
    have hcf : mi.cls = cf := by
      obtain ⟨_, _, c1, _, _, _, -, -, hf', -, -, -, hown2, -⟩ := Cond.laysFinal_spec hlay
      have e1 : c1 = cf := by have := hi.symm.trans hf'; simp at this; exact this.1.symm
      rw [hdecl] at hown2
      rw [← e1]; exact Option.some.inj (hown.symm.trans hown2)
    have h6 := u_fits hfc hkC hkind (Or.inr hlay) hi hty hnar hfits
    have hw : FLp (mOw m, x, a, b, c') := by
      have h7 := List.all_eq_true.mp lFf_all _ hFm
      dsimp only at h7
      rw [← hao, hf] at h7
      simp only [beq_self_eq_true, Bool.and_self, Bool.not_true, Bool.false_or] at h7
      rw [← hao]
      exact lFf_ok _ (List.mem_of_elem_eq_true h7)
    exact W.putFinK hx hb hown (hC.wd hB hw rfl) hi hst hcf (by rw [hnm]; exact hin) (by rw [hcls]; exact h6) hcell hvm (by rw [hsl]; exact hlt) rfl rfl hdec fin
  · rw [if_neg hf] at hlay
    have h6 := u_store hfc hkC hkind hlay hi hty hnar hfits
    rcases h3 with ⟨host, hw⟩ | hw | ⟨ref, hw, hsf⟩
    · exact va_WputK hx hb (f := f) hown (hC.wd hB hw rfl) hi hst (by rw [hcls]; exact h6) hcell hvm (by rw [hsl]; exact hlt) rfl rfl hdec fin
    · exact W.putK hx hb (f := f) ⟨hown, hC.wd hB hw rfl, ⟨_, _, _, hi⟩, hst⟩ (by rw [hcls]; exact h6) hcell hvm (by rw [hsl]; exact hlt) rfl rfl hdec fin
    · exact W.putK hx hb (f := f) ⟨hown, hC.wd hB hw rfl, ⟨_, _, _, u_same (args := args) (hC.wd hB hsf rfl) _ hi⟩, hst⟩ (by rw [hcls]; exact h6) hcell hvm (by rw [hsl]; exact hlt) rfl rfl hdec fin
end fields

