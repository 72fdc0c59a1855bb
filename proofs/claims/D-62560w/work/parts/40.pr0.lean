/-! THE TWIN's READING: what stands in the heap between two turns -/
set_option maxRecDepth 100000
abbrev Fm : Type := Nat → Int
def up (F : Fm) (x : Nat) (v : Int) : Fm := fun y => if y = x then v else F y
/-- a pile of rows in the arrays lo .. hi -/
def stR (lo hi : Nat) (G : mG) : List Fm → Prop
  | [] => True
  | F :: fr => (∀ x, lo ≤ x → x ≤ hi → zA G x fr.length = F x) ∧ stR lo hi G fr
theorem stR_same {lo hi : Nat} {G G' : mG} : ∀ {l : List Fm}, (∀ x, lo ≤ x → x ≤ hi → ∀ k : Nat, k < l.length → zA G' x k = zA G x k) → stR lo hi G l → stR lo hi G' l
  | [], _, _ => trivial
  | _ :: l, h, hs => ⟨fun x h1 h2 => (h x h1 h2 l.length (Nat.lt_succ_self _)).trans (hs.1 x h1 h2), stR_same (fun x h1 h2 k hk => h x h1 h2 k (Nat.lt_succ_of_lt hk)) hs.2⟩
theorem stR_top {lo hi : Nat} {G : mG} {F : Fm} {l : List Fm} {x : Nat} {v : Int} (h : stR lo hi G (F :: l)) : stR lo hi (wA G x (l.length : Int) v) (up F x (wr v) :: l) := by
  refine ⟨fun y h1 h2 => ?_, stR_same (fun y h1 h2 k hk => ?_) h.2⟩
  · rw [zA_wA]
    unfold up
    by_cases hy : y = x
    · rw [if_pos hy, if_pos rfl, if_pos hy]
    · rw [if_neg hy, if_neg hy]
      exact h.1 y h1 h2
  · rw [zA_wA]
    by_cases hy : y = x
    · rw [if_pos hy, if_neg (by omega)]
    · rw [if_neg hy]
def sgc : List Fm → Nat
  | [] => 0
  | F :: fr => (if F 109 = 0 then 0 else 1) + sgc fr
def ptc (out : List Sp) (k : Nat) (v : Int) : List Sp := out.set k ((out.getD k (0, 0)).1, v)
def prA : List Nat := [104, 105, 107, 108, 109, 110, 111, 112, 113, 114, 115, 116, 117, 118]
def prK : List Nat := [8, 9, 14, 16, 17, 18, 19, 29, 33, 34]
theorem if0 (c : Prop) [Decidable c] : ((if c then (1 : Int) else 0) = 0) = ¬ c := by
  by_cases h : c
  · rw [if_pos h]; exact propext ⟨fun e => absurd e (by decide), fun e => absurd h e⟩
  · rw [if_neg h]; exact propext ⟨fun _ => h, fun _ => rfl⟩
theorem wif0 (c : Prop) [Decidable c] : (wr (if c then (1 : Int) else 0) = 0) = ¬ c := by
  rw [show wr (if c then (1 : Int) else 0) = if c then 1 else 0 from by split <;> rfl]
  exact if0 c
section pr
variable (f : Int → Int) (n : Int) (T : List (Int × Int × Int)) (G0 : mG) (st : Nat)
/-- what stands when the tokens are cut -/
def PEnv : Prop := TS G0 ∧ TkR f n G0 T ∧ T.length ≤ 41 ∧ (∀ i, i + 1 = T.length → tkd n T i = 36) ∧ zF G0 98 15 = st ∧ st ≤ 3510 ∧ (∀ i, 0 ≤ tkd n T i ∧ tkd n T i ≤ 40000 ∧ 0 ≤ tpl n T i ∧ tpl n T i ≤ 40) ∧ (∀ i, tkd n T i = 97 → 0 ≤ tvl f n T i ∧ tvl f n T i ≤ 14348906) ∧ ∀ i, tkd n T i = 11776 → 1 ≤ tsc f n T i ∧ tsc f n T i ≤ 3
/-- what is kept -/
def PK (G : mG) : Prop := Fr prA prK G0 G ∧ (∀ k : Int, 0 ≤ k → k < st → zA G 104 k = zA G0 104 k ∧ jA G 105 k = jA G0 105 k) ∧ (zF G 98 17 = 0 ∨ zF G 98 17 = 1)
def outR (G : mG) (out : List Sp) : Prop := ∀ (k : Nat) (s : Sp), out[k]? = some s → zA G 104 (st + k) = s.1 ∧ jA G 105 (st + k) = J s.2
def PR (G : mG) (i : Nat) (out : List Sp) (op : Bool) (fr wt : List Fm) (ta ts : Int) : Prop :=
  PK G0 st G ∧ (zF G 98 14 = i ∧ zF G 98 16 = out.length ∧ zF G 98 17 = (if op = true then 1 else 0) ∧ zF G 98 19 = fr.length ∧ zF G 98 29 = wt.length ∧ zF G 98 33 = ta ∧ zF G 98 34 = ts ∧ zF G 98 8 = 0 ∧ zF G 98 18 = 0)
  ∧ outR st G out ∧ stR 107 115 G fr ∧ stR 116 118 G wt ∧ (i < T.length ∧ out.length ≤ 90 ∧ fr.length ≤ 5 ∧ wt.length ≤ 48)
/-- an error was found -/
def PE (G : mG) (e p : Int) : Prop := PK G0 st G ∧ zF G 98 8 = e ∧ zF G 98 9 = p ∧ (1 ≤ e ∧ e ≤ 3 ∧ 0 ≤ p ∧ p ≤ 50)
variable {f n T G0 st} {G : mG} {i : Nat} {out : List Sp} {op : Bool} {fr wt : List Fm} {ta ts : Int}
theorem PK.pF (h : PK G0 st G) {k : Nat} {v : Int} (hk : k ∈ prK ∧ ¬ 17 = k) : PK G0 st (wF G 98 k v) := ⟨h.1.pF hk.1, fun k h1 h2 => by rw [zA_wF _ _ _ _ _ _ (by decide), jA_wF]; exact h.2.1 k h1 h2, by rw [zF_wF, if_pos rfl, if_neg hk.2]; exact h.2.2⟩
theorem PK.p17 (h : PK G0 st G) {v : Int} (hv : v = 0 ∨ v = 1) : PK G0 st (wF G 98 17 v) := ⟨h.1.pF (by decide), fun k h1 h2 => by rw [zA_wF _ _ _ _ _ _ (by decide), jA_wF]; exact h.2.1 k h1 h2, by rw [zF_wF, if_pos rfl, if_pos rfl]; rcases hv with rfl | rfl; exact Or.inl rfl; exact Or.inr rfl⟩
theorem prA98 {x : Nat} (hx : x ∈ prA) : 98 ≠ x := fun e => by subst e; exact absurd hx (by decide)
theorem PK.pA (h : PK G0 st G) {x : Nat} {i v : Int} (hx : x ∈ prA) (h4 : ¬ 104 = x) : PK G0 st (wA G x i v) := ⟨h.1.pA hx, fun k h1 h2 => by rw [zA_wA, if_neg h4, jA_wA]; exact h.2.1 k h1 h2, by rw [zF_wA _ _ _ _ _ _ (prA98 hx)]; exact h.2.2⟩
theorem PK.pA4 (h : PK G0 st G) {i v : Int} (hi : (st : Int) ≤ i) : PK G0 st (wA G 104 i v) := ⟨h.1.pA (by decide), fun k h1 h2 => by rw [zA_wA, if_pos rfl, if_neg (by omega), jA_wA]; exact h.2.1 k h1 h2, by rw [zF_wA _ _ _ _ _ _ (by decide)]; exact h.2.2⟩
theorem PK.pJ5 (h : PK G0 st G) {i : Int} {v : Int64} (hi : (st : Int) ≤ i) : PK G0 st (wJ G 105 i v) := ⟨h.1.pJ (by decide), fun k h1 h2 => by rw [jA_wJ, if_pos rfl, if_neg (by omega), zA_wJ]; exact h.2.1 k h1 h2, by rw [zF_wJ]; exact h.2.2⟩
theorem PR.zst (hE : PEnv f n T G0 st) (h : PR T G0 st G i out op fr wt ta ts) : zF G 98 15 = st := by
  rw [h.1.1.vF 15 (by decide) (by decide)]; exact hE.2.2.2.2.1
theorem PR.hts (hE : PEnv f n T G0 st) (h : PR T G0 st G i out op fr wt ta ts) : TS G := h.1.1.ts hE.1
theorem PR.tok (hE : PEnv f n T G0 st) (h : PR T G0 st G i out op fr wt ta ts) : zA G 100 i = tkc (tkd n T i) ∧ zA G 101 i = tpl n T i ∧ jA G 102 i = J (tvl f n T i) ∧ zA G 103 i = tsc f n T i := by
  have hi := h.2.2.2.2.2.1
  have hq := hE.2.1.2 i T[i] (List.getElem?_eq_getElem hi)
  have hg : T.getD i (36, n, 0) = T[i] := by rw [List.getD_eq_getElem?_getD, List.getElem?_eq_getElem hi]; rfl
  rw [h.1.1.vA 100 i (by decide) (by decide), h.1.1.vA 101 i (by decide) (by decide), h.1.1.vA 103 i (by decide) (by decide), h.1.1.vJ 102 i (by decide)]
  unfold tvl tsc tkd tpl
  rw [hg]
  exact hq
theorem PR.bd (h : PR T G0 st G i out op fr wt ta ts) : (zF G 98 14 = i ∧ zF G 98 16 = out.length ∧ zF G 98 17 = (if op = true then 1 else 0) ∧ zF G 98 19 = fr.length ∧ zF G 98 29 = wt.length) ∧ (zF G 98 33 = ta ∧ zF G 98 34 = ts ∧ zF G 98 8 = 0 ∧ zF G 98 18 = 0) ∧ (i < T.length ∧ out.length ≤ 90 ∧ fr.length ≤ 5 ∧ wt.length ≤ 48) := by
  obtain ⟨-, ⟨s1, s2, s3, s4, s5, s6, s7, s8, s9⟩, -, -, -, b⟩ := h
  exact ⟨⟨s1, s2, s3, s4, s5⟩, ⟨s6, s7, s8, s9⟩, b⟩
theorem outR_F {k : Nat} {v : Int} (h : outR st G out) : outR st (wF G 98 k v) out := fun q s hq => by
  rw [zA_wF _ _ _ _ _ _ (by decide), jA_wF]; exact h q s hq
theorem outR_A {x : Nat} {j v : Int} (hx : ¬ 104 = x) (h : outR st G out) : outR st (wA G x j v) out := fun q s hq => by
  rw [zA_wA, if_neg hx, jA_wA]; exact h q s hq
theorem stR_F {lo hi k : Nat} {v : Int} {l : List Fm} (hl : 98 < lo) (h : stR lo hi G l) : stR lo hi (wF G 98 k v) l := stR_same (fun x h1 h2 q hq => zA_wF _ _ _ _ _ _ (by omega)) h
theorem stR_A {lo hi x : Nat} {j v : Int} {l : List Fm} (hx : x < lo ∨ hi < x) (h : stR lo hi G l) : stR lo hi (wA G x j v) l := stR_same (fun y h1 h2 q hq => by rw [zA_wA, if_neg (by omega)]) h
theorem stR_J {lo hi x : Nat} {j : Int} {v : Int64} {l : List Fm} (h : stR lo hi G l) : stR lo hi (wJ G x j v) l := stR_same (fun y h1 h2 q hq => by rw [zA_wJ]) h
/-- writing above a pile -/
theorem stR_above {lo hi x : Nat} {v : Int} {l : List Fm} (h : stR lo hi G l) : stR lo hi (wA G x (l.length : Int) v) l := stR_same (fun y h1 h2 q hq => by
  rw [zA_wA]
  by_cases hy : y = x
  · rw [if_pos hy, if_neg (by omega)]
  · rw [if_neg hy]) h
theorem PR.nxt (h : PR T G0 st G i out op fr wt ta ts) {v : Int} (hi : i + 1 < T.length) (hT : T.length ≤ 41) (hv : v = i + 1) : PR T G0 st (wF G 98 14 v) (i + 1) out op fr wt ta ts := by
  obtain ⟨hK, ⟨s1, s2, s3, s4, s5, s6, s7, s8, s9⟩, ho, hf, hw, b1, b2, b3, b4⟩ := h
  refine ⟨hK.pF (by decide), ⟨?_, ?_, ?_, ?_, ?_, ?_, ?_, ?_, ?_⟩, outR_F ho, stR_F (by decide) hf, stR_F (by decide) hw, hi, b2, b3, b4⟩ <;> rw [zF_wF, if_pos rfl] <;> first | rw [if_neg (by decide)]; assumption | (rw [if_pos rfl, hv, wr_id] <;> omega)
theorem PR.op17 (h : PR T G0 st G i out op fr wt ta ts) {o : Bool} {v : Int} (hv : v = if o = true then 1 else 0) : PR T G0 st (wF G 98 17 v) i out o fr wt ta ts := by
  obtain ⟨hK, ⟨s1, s2, s3, s4, s5, s6, s7, s8, s9⟩, ho, hf, hw, b1, b2, b3, b4⟩ := h
  refine ⟨hK.p17 (by rw [hv]; cases o; exact Or.inl rfl; exact Or.inr rfl), ⟨?_, ?_, ?_, ?_, ?_, ?_, ?_, ?_, ?_⟩, outR_F ho, stR_F (by decide) hf, stR_F (by decide) hw, b1, b2, b3, b4⟩ <;> rw [zF_wF, if_pos rfl] <;> first | rw [if_neg (by decide)]; assumption | (rw [if_pos rfl, hv]; cases o <;> rfl)
theorem PR.aim (h : PR T G0 st G i out op fr wt ta ts) {v w : Int} (hv : -2147483648 ≤ v ∧ v < 2147483648) (hw2 : -2147483648 ≤ w ∧ w < 2147483648) : PR T G0 st (wF (wF G 98 33 v) 98 34 w) i out op fr wt v w := by
  obtain ⟨hK, ⟨s1, s2, s3, s4, s5, s6, s7, s8, s9⟩, ho, hf, hw, b1, b2, b3, b4⟩ := h
  refine ⟨(hK.pF (by decide)).pF (by decide), ⟨?_, ?_, ?_, ?_, ?_, ?_, ?_, ?_, ?_⟩, outR_F (outR_F ho), stR_F (by decide) (stR_F (by decide) hf), stR_F (by decide) (stR_F (by decide) hw), b1, b2, b3, b4⟩ <;> rw [zF_wF, if_pos rfl] <;> first | rw [if_neg (by decide), zF_wF, if_pos rfl, if_neg (by decide)]; assumption | (rw [if_pos rfl, wr_id] <;> omega) | (rw [if_neg (by decide), zF_wF, if_pos rfl, if_pos rfl, wr_id] <;> omega)
/-- the last step is taken back -/
theorem PR.back (h : PR T G0 st G i out op fr wt ta ts) {v : Int} (ho0 : 0 < out.length) (hv : v = out.length - 1) : PR T G0 st (wF G 98 16 v) i out.dropLast op fr wt ta ts := by
  obtain ⟨hK, ⟨s1, s2, s3, s4, s5, s6, s7, s8, s9⟩, ho, hf, hw, b1, b2, b3, b4⟩ := h
  have hl : out.dropLast.length = out.length - 1 := List.length_dropLast
  refine ⟨hK.pF (by decide), ⟨?_, ?_, ?_, ?_, ?_, ?_, ?_, ?_, ?_⟩, outR_F (fun q s hq => ho q s ?_), stR_F (by decide) hf, stR_F (by decide) hw, b1, by omega, b3, b4⟩
  all_goals try (rw [zF_wF, if_pos rfl]; first | (rw [if_neg (by decide)]; assumption) | (rw [if_pos rfl, hv, wr_id] <;> omega))
  rw [List.getElem?_dropLast] at hq
  split at hq
  · exact hq
  · cases hq
theorem PR.fpop {F : Fm} (h : PR T G0 st G i out op (F :: fr) wt ta ts) {v : Int} (hv : v = fr.length) : PR T G0 st (wF G 98 19 v) i out op fr wt ta ts := by
  obtain ⟨hK, ⟨s1, s2, s3, s4, s5, s6, s7, s8, s9⟩, ho, hf, hw, b1, b2, b3, b4⟩ := h
  simp only [List.length_cons] at s4 b3
  refine ⟨hK.pF (by decide), ⟨?_, ?_, ?_, ?_, ?_, ?_, ?_, ?_, ?_⟩, outR_F ho, stR_F (by decide) hf.2, stR_F (by decide) hw, b1, b2, by omega, b4⟩ <;> rw [zF_wF, if_pos rfl] <;> first | rw [if_neg (by decide)]; assumption | (rw [if_pos rfl, hv, wr_id] <;> omega)
theorem PR.wpop {W : Fm} (h : PR T G0 st G i out op fr (W :: wt) ta ts) {v : Int} (hv : v = wt.length) : PR T G0 st (wF G 98 29 v) i out op fr wt ta ts := by
  obtain ⟨hK, ⟨s1, s2, s3, s4, s5, s6, s7, s8, s9⟩, ho, hf, hw, b1, b2, b3, b4⟩ := h
  simp only [List.length_cons] at s5 b4
  refine ⟨hK.pF (by decide), ⟨?_, ?_, ?_, ?_, ?_, ?_, ?_, ?_, ?_⟩, outR_F ho, stR_F (by decide) hf, stR_F (by decide) hw.2, b1, b2, b3, by omega⟩ <;> rw [zF_wF, if_pos rfl] <;> first | rw [if_neg (by decide)]; assumption | (rw [if_pos rfl, hv, wr_id] <;> omega)
/-- one more that waits: what stands above the pile -/
theorem PR.wexp (h : PR T G0 st G i out op fr wt ta ts) {v : Int} (hl : wt.length < 48) (hv : v = wt.length + 1) : PR T G0 st (wF G 98 29 v) i out op fr ((fun x => zA G x wt.length) :: wt) ta ts := by
  obtain ⟨hK, ⟨s1, s2, s3, s4, s5, s6, s7, s8, s9⟩, ho, hf, hw, b1, b2, b3, b4⟩ := h
  refine ⟨hK.pF (by decide), ⟨?_, ?_, ?_, ?_, ?_, ?_, ?_, ?_, ?_⟩, outR_F ho, stR_F (by decide) hf, stR_F (by decide) ⟨fun _ _ _ => rfl, hw⟩, b1, b2, b3, by simp only [List.length_cons]; omega⟩ <;> rw [zF_wF, if_pos rfl] <;> first | rw [if_neg (by decide)]; assumption | (rw [if_pos rfl, hv, List.length_cons, wr_id] <;> omega)
theorem zF_A {x k : Nat} {j v : Int} (hx : 98 < x) : zF (wA G x j v) 98 k = zF G 98 k := zF_wA _ _ _ _ _ _ (by omega)
theorem mem_prA {x : Nat} (h : 107 ≤ x) (h2 : x ≤ 118) : x ∈ prA ∧ ¬ 104 = x := by
  have : x = 107 ∨ x = 108 ∨ x = 109 ∨ x = 110 ∨ x = 111 ∨ x = 112 ∨ x = 113 ∨ x = 114 ∨ x = 115 ∨ x = 116 ∨ x = 117 ∨ x = 118 := by omega
  rcases this with h | h | h | h | h | h | h | h | h | h | h | h <;> subst h <;> decide
theorem PR.wabove (h : PR T G0 st G i out op fr wt ta ts) {x : Nat} {k v : Int} (hx : 116 ≤ x ∧ x ≤ 118) (hk : k = wt.length) : PR T G0 st (wA G x k v) i out op fr wt ta ts := by
  subst hk
  obtain ⟨hK, hs, ho, hf, hw, b⟩ := h
  have hm := mem_prA (x := x) (by omega) (by omega)
  simp only [← zF_A (G := G) (x := x) (j := (wt.length : Int)) (v := v) (by omega)] at hs
  exact ⟨hK.pA hm.1 hm.2, hs, outR_A hm.2 ho, stR_A (by omega) hf, stR_above hw, b⟩
theorem PR.fset {F : Fm} (h : PR T G0 st G i out op (F :: fr) wt ta ts) {x : Nat} {k v : Int} (hx : 107 ≤ x ∧ x ≤ 115) (hk : k = fr.length) (hv : -2147483648 ≤ v ∧ v < 2147483648) : PR T G0 st (wA G x k v) i out op (up F x v :: fr) wt ta ts := by
  subst hk
  obtain ⟨hK, hs, ho, hf, hw, b⟩ := h
  have hm := mem_prA (x := x) (by omega) (by omega)
  simp only [← zF_A (G := G) (x := x) (j := (fr.length : Int)) (v := v) (by omega)] at hs
  have ht := stR_top (x := x) (v := v) hf
  rw [wr_id (by omega) (by omega)] at ht
  exact ⟨hK.pA hm.1 hm.2, hs, outR_A hm.2 ho, ht, stR_A (by omega) hw, b⟩
theorem PR.fabove (h : PR T G0 st G i out op fr wt ta ts) {x : Nat} {k v : Int} (hx : 107 ≤ x ∧ x ≤ 115) (hk : k = fr.length) : PR T G0 st (wA G x k v) i out op fr wt ta ts := by
  subst hk
  obtain ⟨hK, hs, ho, hf, hw, b⟩ := h
  have hm := mem_prA (x := x) (by omega) (by omega)
  simp only [← zF_A (G := G) (x := x) (j := (fr.length : Int)) (v := v) (by omega)] at hs
  exact ⟨hK.pA hm.1 hm.2, hs, outR_A hm.2 ho, stR_above hf, stR_A (by omega) hw, b⟩
theorem PR.fexp (h : PR T G0 st G i out op fr wt ta ts) {v : Int} (hl : fr.length < 5) (hv : v = fr.length + 1) : PR T G0 st (wF G 98 19 v) i out op ((fun x => zA G x fr.length) :: fr) wt ta ts := by
  obtain ⟨hK, ⟨s1, s2, s3, s4, s5, s6, s7, s8, s9⟩, ho, hf, hw, b1, b2, b3, b4⟩ := h
  refine ⟨hK.pF (by decide), ⟨?_, ?_, ?_, ?_, ?_, ?_, ?_, ?_, ?_⟩, outR_F ho, stR_F (by decide) ⟨fun _ _ _ => rfl, hf⟩, stR_F (by decide) hw, b1, b2, by simp only [List.length_cons]; omega, b4⟩ <;> rw [zF_wF, if_pos rfl] <;> first | rw [if_neg (by decide)]; assumption | (rw [if_pos rfl, hv, List.length_cons, wr_id] <;> omega)
/-- a step more -/
def emitG (G : mG) (s : Int) (v : Int64) : mG := wF (wJ (wA G 104 (zF G 98 15 + zF G 98 16) s) 105 (zF G 98 15 + zF G 98 16) v) 98 16 (zF G 98 16 + 1)
theorem PR.emit (hE : PEnv f n T G0 st) (h : PR T G0 st G i out op fr wt ta ts) {s v : Int} (hl : out.length < 90) (hs : 0 ≤ s ∧ s ≤ 100) : PR T G0 st (emitG G s (J v)) i (out ++ [(s, v)]) op fr wt ta ts := by
  have h15 := h.zst hE
  obtain ⟨hK, ⟨s1, s2, s3, s4, s5, s6, s7, s8, s9⟩, ho, hf, hw, b1, b2, b3, b4⟩ := h
  unfold emitG
  rw [h15, s2]
  refine ⟨((hK.pA4 (by omega)).pJ5 (by omega)).pF (by decide), ⟨?_, ?_, ?_, ?_, ?_, ?_, ?_, ?_, ?_⟩, outR_F (fun q x hq => ?_), stR_F (by decide) (stR_J (stR_A (by decide) hf)), stR_F (by decide) (stR_J (stR_A (by decide) hw)), b1, by simp only [List.length_append, List.length_cons, List.length_nil]; omega, b3, b4⟩
  all_goals try (rw [zF_wF, if_pos rfl]; first | (rw [if_neg (by decide), zF_wJ, zF_A (by decide)]; assumption) | (rw [if_pos rfl, List.length_append, List.length_cons, List.length_nil, wr_id] <;> omega))
  rw [zA_wJ, zA_wA, if_pos rfl, jA_wJ, if_pos rfl, jA_wA]
  by_cases hq2 : q < out.length
  · rw [List.getElem?_append_left hq2] at hq
    rw [if_neg (by omega), if_neg (by omega)]
    exact ho q x hq
  · have hlen := (List.getElem?_eq_some_iff.mp hq).1
    simp only [List.length_append, List.length_cons, List.length_nil] at hlen
    have hq3 : q = out.length := by omega
    subst hq3
    rw [List.getElem?_append_right (Nat.le_refl _), Nat.sub_self] at hq
    cases hq
    rw [if_pos rfl, if_pos rfl, wr_id (by omega) (by omega)]
    exact ⟨rfl, rfl⟩
/-- a jump gets its aim -/
theorem PR.patch (h : PR T G0 st G i out op fr wt ta ts) {k : Nat} {j v : Int} {u : Int64} (hk : k < out.length) (hj : j = st + k) (hu : u = J v) : PR T G0 st (wJ G 105 j u) i (ptc out k v) op fr wt ta ts := by
  subst hj
  subst hu
  obtain ⟨hK, hs, ho, hf, hw, b⟩ := h
  have hlen : (ptc out k v).length = out.length := by unfold ptc; rw [List.length_set]
  refine ⟨hK.pJ5 (by omega), ?_, fun q x hq => ?_, stR_J hf, stR_J hw, ?_⟩
  · rw [hlen]; exact hs
  · rw [zA_wJ, jA_wJ, if_pos rfl]
    unfold ptc at hq
    rw [List.getElem?_set] at hq
    by_cases hkq : k = q
    · subst hkq
      rw [if_pos rfl, if_pos hk] at hq
      cases hq
      rw [if_pos rfl]
      refine ⟨?_, rfl⟩
      rw [List.getD_eq_getElem?_getD, List.getElem?_eq_getElem hk]
      exact (ho k out[k] (List.getElem?_eq_getElem hk)).1
    · rw [if_neg hkq] at hq
      rw [if_neg (by omega)]
      exact ho q x hq
  · rw [hlen]; exact b
theorem zF_put {x k : Nat} {v : Int} (h1 : -2147483648 ≤ v) (h2 : v < 2147483648) : zF (wF G x k v) x k = v := by rw [zF_wF, if_pos rfl, if_pos rfl, wr_id h1 h2]
theorem zF_putn {x k q : Nat} {v : Int} (h : ¬ q = k) : zF (wF G x k v) x q = zF G x q := by rw [zF_wF, if_pos rfl, if_neg h]
theorem PR.back1 {s : Sp} (h : PR T G0 st G i (out ++ [s]) op fr wt ta ts) {v : Int} (hv : v = out.length) : PR T G0 st (wF G 98 16 v) i out op fr wt ta ts := by
  have := h.back (v := v) (by rw [List.length_append]; exact Nat.lt_add_left _ Nat.zero_lt_one) (by rw [hv, List.length_append, List.length_cons, List.length_nil]; omega)
  rw [List.dropLast_concat] at this
  exact this
theorem J_wr_eq {x v : Int} (h : x = v) (h1 : -2147483648 ≤ v ∧ v < 2147483648) : J (wr x) = J v := by rw [h, wr_id h1.1 h1.2]
theorem ptc_len {k : Nat} {v : Int} : (ptc out k v).length = out.length := by unfold ptc; rw [List.length_set]
theorem PR.rd {F : Fm} (h : PR T G0 st G i out op (F :: fr) wt ta ts) {x : Nat} {k : Int} (hk : k = fr.length) (h1 : 107 ≤ x) (h2 : x ≤ 115) : zA G x k = F x := by rw [hk]; exact h.2.2.2.1.1 x h1 h2
theorem PR.rw {W : Fm} (h : PR T G0 st G i out op fr (W :: wt) ta ts) {x : Nat} {k : Int} (hk : k = wt.length) (h1 : 116 ≤ x) (h2 : x ≤ 118) : zA G x k = W x := by rw [hk]; exact h.2.2.2.2.1.1 x h1 h2
theorem PR.zl (hE : PEnv f n T G0 st) (h : PR T G0 st G i out op fr wt ta ts) : zL G 102 i = wrJ (tvl f n T i) := by rw [zL_jA, (h.tok hE).2.2.1]; rfl
theorem PR.wrong (h : PR T G0 st G i out op fr wt ta ts) {e p : Int} (he : 1 ≤ e ∧ e ≤ 3) (hp : 0 ≤ p ∧ p ≤ 50) : PE G0 st (wrongG G e p) e p := by
  have h8 := h.bd.2.1.2.2.1
  have hw := wrongG_8 h8 (e := e) (p := p) (by omega) hp
  refine ⟨?_, hw.1, hw.2, he.1, he.2, hp⟩
  unfold wrongG
  rw [if_pos h8]
  exact (h.1.pF (by decide)).pF (by decide)
end pr

