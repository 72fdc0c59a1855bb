/-! THE TWIN: what a method leaves alone; the tokens of a text -/
set_option maxRecDepth 100000
/-- nothing but the arrays A and the twin's fields K has changed -/
def Fr (A K : List Nat) (G G' : mG) : Prop := (tg G' = tg G ∧ ln G' = ln G ∧ gP G' = gP G ∧ nx G' = nx G ∧ us G' = us G) ∧ (∀ x k, x ∉ A → (x = 98 → k ∉ K) → gI G' x k = gI G x k) ∧ (∀ x k, x ∉ A → gJ G' x k = gJ G x k) ∧ ∀ x k, x ∉ A → gD G' x k = gD G x k
theorem Fr.refl (A K : List Nat) (G : mG) : Fr A K G G := ⟨⟨rfl, rfl, rfl, rfl, rfl⟩, fun _ _ _ _ => rfl, fun _ _ _ => rfl, fun _ _ _ => rfl⟩
theorem Fr.trans {A K : List Nat} {G G1 G2 : mG} (h : Fr A K G G1) (h2 : Fr A K G1 G2) : Fr A K G G2 := by
  obtain ⟨⟨a1, a2, a3, a4, a5⟩, b, c, e⟩ := h
  obtain ⟨⟨a1', a2', a3', a4', a5'⟩, b', c', e'⟩ := h2
  exact ⟨⟨a1'.trans a1, a2'.trans a2, a3'.trans a3, a4'.trans a4, a5'.trans a5⟩, fun x k h1 h2 => (b' x k h1 h2).trans (b x k h1 h2), fun x k h1 => (c' x k h1).trans (c x k h1), fun x k h1 => (e' x k h1).trans (e x k h1)⟩
theorem Fr.mono {A K A' K' : List Nat} {G G1 : mG} (h : Fr A K G G1) (ha : ∀ x, x ∈ A → x ∈ A') (hk : ∀ x, x ∈ K → x ∈ K') : Fr A' K' G G1 := by
  obtain ⟨a, b, c, e⟩ := h
  exact ⟨a, fun x k h1 h2 => b x k (fun q => h1 (ha x q)) (fun q q2 => h2 q (hk k q2)), fun x k h1 => c x k (fun q => h1 (ha x q)), fun x k h1 => e x k (fun q => h1 (ha x q))⟩
theorem Fr.pF {A K : List Nat} {G G1 : mG} (h : Fr A K G G1) {k : Nat} {v : Int} (hk : k ∈ K) : Fr A K G (wF G1 98 k v) := by
  refine h.trans ⟨⟨rfl, rfl, rfl, rfl, rfl⟩, fun x q h1 h2 => ?_, fun _ _ _ => rfl, fun _ _ _ => rfl⟩
  show u2 G1.2.2.1 98 k (N v) x q = _
  unfold u2
  by_cases hx : x = 98
  · rw [if_pos hx, if_neg (fun e => h2 hx (by rw [e]; exact hk))]; rfl
  · rw [if_neg hx]; rfl
theorem Fr.pA {A K : List Nat} {G G1 : mG} (h : Fr A K G G1) {x : Nat} {i v : Int} (hx : x ∈ A) : Fr A K G (wA G1 x i v) := by
  refine h.trans ⟨⟨rfl, rfl, rfl, rfl, rfl⟩, fun y q h1 h2 => ?_, fun _ _ _ => rfl, fun _ _ _ => rfl⟩
  show u2 G1.2.2.1 x i.toNat (N v) y q = _
  unfold u2
  rw [if_neg (fun e => h1 (by rw [e]; exact hx))]; rfl
theorem Fr.pJ {A K : List Nat} {G G1 : mG} (h : Fr A K G G1) {x : Nat} {i : Int} {v : Int64} (hx : x ∈ A) : Fr A K G (wJ G1 x i v) := by
  refine h.trans ⟨⟨rfl, rfl, rfl, rfl, rfl⟩, fun _ _ _ _ => rfl, fun y q h1 => ?_, fun _ _ _ => rfl⟩
  show u2 G1.2.2.2.1 x i.toNat v y q = _
  unfold u2
  rw [if_neg (fun e => h1 (by rw [e]; exact hx))]; rfl
theorem Fr.pD {A K : List Nat} {G G1 : mG} (h : Fr A K G G1) {x : Nat} {i : Int} {v : UInt64} (hx : x ∈ A) : Fr A K G (wD G1 x i v) := by
  refine h.trans ⟨⟨rfl, rfl, rfl, rfl, rfl⟩, fun _ _ _ _ => rfl, fun _ _ _ => rfl, fun y q h1 => ?_⟩
  show u2 G1.2.2.2.2.1 x i.toNat v y q = _
  unfold u2
  rw [if_neg (fun e => h1 (by rw [e]; exact hx))]; rfl
theorem Fr.vF {A K : List Nat} {G G1 : mG} (h : Fr A K G G1) (k : Nat) (hk : k ∉ K) (hA : 98 ∉ A) : zF G1 98 k = zF G 98 k := congrArg Int32.toInt (h.2.1 98 k hA (fun _ => hk))
theorem Fr.vA {A K : List Nat} {G G1 : mG} (h : Fr A K G G1) (x : Nat) (i : Int) (hx : x ∉ A) (h98 : x ≠ 98) : zA G1 x i = zA G x i := congrArg Int32.toInt (h.2.1 x i.toNat hx (fun e => absurd e h98))
theorem Fr.vJ {A K : List Nat} {G G1 : mG} (h : Fr A K G G1) (x : Nat) (i : Int) (hx : x ∉ A) : jA G1 x i = jA G x i := h.2.2.1 x i.toNat hx
theorem Fr.vD {A K : List Nat} {G G1 : mG} (h : Fr A K G G1) (x : Nat) (i : Int) (hx : x ∉ A) : dA G1 x i = dA G x i := h.2.2.2 x i.toNat hx
theorem Fr.ts {A K : List Nat} {G G1 : mG} (h : Fr A K G G1) (hT : TS G) : TS G1 := by
  obtain ⟨⟨a1, a2, a3, -⟩, -⟩ := h
  refine ⟨fun a t e => ?_, fun a n e => ?_, fun k y e => ?_⟩
  · rw [a1]; exact hT.t e
  · rw [a2]; exact hT.n e
  · rw [a3]; exact hT.p e
/-- tokens -/
def tkA : List Nat := [100, 101, 102, 103]
def tkK : List Nat := [3, 8, 9]
theorem Fr.txt {K : List Nat} {A : List Nat} {G G1 : mG} (h : Fr A K G G1) (hK : 1 ∉ K) (hA : 98 ∉ A) (hA2 : 99 ∉ A) : tAt G1 = tAt G ∧ (TX G → TX G1) := by
  have e1 := h.vF 1 hK hA
  have e2 : ∀ k, zA G1 99 k = zA G 99 k := fun k => h.vA 99 k hA2 (by decide)
  refine ⟨?_, fun ht => ?_⟩
  · funext k
    unfold tAt
    rw [e1, e2]
  · unfold TX at ht ⊢
    rw [e1]
    exact ⟨ht.1, ht.2.1, fun k h1 h2 => by rw [e2]; exact ht.2.2 k h1 h2⟩
/-- the twin's tokens are ts -/
def TkR (f : Int → Int) (n : Int) (G : mG) (ts : List (Int × Int × Int)) : Prop := zF G 98 3 = ts.length ∧ ∀ (i : Nat) (t : Int × Int × Int), ts[i]? = some t → zA G 100 i = tkc t.1 ∧ zA G 101 i = t.2.1 ∧ jA G 102 i = J (tkv f n t.1 t.2.1) ∧ zA G 103 i = tks f t.1 t.2.1
theorem Fr.fadd {G : mG} {k p : Int} {v : Int64} : Fr tkA tkK G (addG G k p v) := by
  refine Fr.pF (Fr.pA (Fr.pJ (Fr.pA (Fr.pA (Fr.refl _ _ _) ?_) ?_) ?_) ?_) ?_ <;> decide
theorem Fr.fwrong {G : mG} {e p : Int} : Fr tkA tkK G (wrongG G e p) := by
  unfold wrongG
  split
  · refine Fr.pF (Fr.pF (Fr.refl _ _ _) ?_) ?_ <;> decide
  · exact Fr.refl _ _ _
theorem TkR.push {f : Int → Int} {n : Int} {G G' : mG} {ts : List (Int × Int × Int)} {t : Int × Int × Int} (h : TkR f n G ts) (hl : ts.length ≤ 41) (h3 : zF G' 98 3 = zF G 98 3 + 1)
    (hold : ∀ i : Int, 0 ≤ i → i < ts.length → zA G' 100 i = zA G 100 i ∧ zA G' 101 i = zA G 101 i ∧ jA G' 102 i = jA G 102 i ∧ zA G' 103 i = zA G 103 i)
    (hnew : zA G' 100 ts.length = tkc t.1 ∧ zA G' 101 ts.length = t.2.1 ∧ jA G' 102 ts.length = J (tkv f n t.1 t.2.1) ∧ zA G' 103 ts.length = tks f t.1 t.2.1) : TkR f n G' (ts ++ [t]) := by
  refine ⟨by rw [h3, h.1]; simp, fun i q hq => ?_⟩
  by_cases hi : i < ts.length
  · rw [List.getElem?_append_left hi] at hq
    obtain ⟨e1, e2, e3, e4⟩ := hold i (by omega) (by omega)
    rw [e1, e2, e3, e4]
    exact h.2 i q hq
  · have hi2 : i = ts.length := by
      have := (List.getElem?_eq_some_iff.mp hq).1
      simp at this
      omega
    subst hi2
    rw [List.getElem?_append_right (Nat.le_refl _)] at hq
    simp at hq
    subst hq
    exact hnew
/-- a token more, by add -/
theorem TkR.add {f : Int → Int} {n : Int} {G : mG} {ts : List (Int × Int × Int)} {t : Int × Int × Int} {c v : Int} (h : TkR f n G ts) (hl : ts.length ≤ 41) (hc : c = tkc t.1) (hcr : 0 ≤ c ∧ c ≤ 5) (hp : 0 ≤ t.2.1 ∧ t.2.1 ≤ 40) (hv : v = tkv f n t.1 t.2.1) (hs : tks f t.1 t.2.1 = 0) : TkR f n (addG G c t.2.1 (J v)) (ts ++ [t]) := by
  have h3 := h.1
  refine h.push hl ?_ (fun i i1 i2 => ?_) ?_
  · unfold addG
    simp (disch := omega) only [zF_wF, if_true, wr_id]
  · unfold addG
    have hne : ¬ i.toNat = (zF G 98 3).toNat := by omega
    simp (disch := omega) only [zA_wF, zA_wA, zA_wJ, jA_wF, jA_wA, jA_wJ, ne_eq, reduceCtorEq, not_false_eq_true, if_true, if_false, Nat.reduceEqDiff, hne, and_self]
  · unfold addG
    rw [← h3, hs, ← hc, ← hv]
    simp (disch := omega) only [zA_wF, zA_wA, zA_wJ, jA_wF, jA_wA, jA_wJ, ne_eq, reduceCtorEq, not_false_eq_true, if_true, if_false, Nat.reduceEqDiff, and_self, wr_id]
theorem TkR.num {f : Int → Int} {n : Int} {G : mG} {ts : List (Int × Int × Int)} {t : Int × Int × Int} {c v u : Int} (h : TkR f n G ts) (hl : ts.length ≤ 41) (hc : c = tkc t.1) (hcr : 0 ≤ c ∧ c ≤ 5) (hp : 0 ≤ t.2.1 ∧ t.2.1 ≤ 40) (hv : v = tkv f n t.1 t.2.1) (hu : u = tks f t.1 t.2.1) (hur : 0 ≤ u ∧ u ≤ 3) : TkR f n (wA (addG G c t.2.1 (J v)) 103 (zF G 98 3) u) (ts ++ [t]) := by
  have h3 := h.1
  refine h.push hl ?_ (fun i i1 i2 => ?_) ?_
  · unfold addG
    simp (disch := omega) only [zF_wF, zF_wA, ne_eq, reduceCtorEq, not_false_eq_true, Nat.reduceEqDiff, if_true, wr_id]
  · unfold addG
    have hne : ¬ i.toNat = (zF G 98 3).toNat := by omega
    simp (disch := omega) only [zA_wF, zA_wA, zA_wJ, jA_wF, jA_wA, jA_wJ, ne_eq, reduceCtorEq, not_false_eq_true, if_true, if_false, Nat.reduceEqDiff, hne, and_self]
  · unfold addG
    rw [← h3, ← hu, ← hc, ← hv]
    simp (disch := omega) only [zA_wF, zA_wA, zA_wJ, jA_wF, jA_wA, jA_wJ, ne_eq, reduceCtorEq, not_false_eq_true, if_true, if_false, Nat.reduceEqDiff, and_self, wr_id]
section cut
variable {d : Nat} {Q : mR → Prop}
theorem lexOne_adv {G : mG} (hs : TX G) {k : Int} {q : Int × Int} (hk : 0 ≤ k ∧ k < zF G 98 1) (h : lexOne (tAt G) (zF G 98 1) k = some q) : k < q.2 ∧ q.2 ≤ 42 := by
  have h40 := hs.2.1
  have hsd : ∀ m j, j ≤ 41 → spn (fun i => dgt (tAt G i)) m j ≤ 41 := by
    intro m j hj
    by_cases h : spn (fun i => dgt (tAt G i)) m j ≤ 41
    · exact h
    · have := spn_all (fun i => dgt (tAt G i)) m j 41 hj (by omega)
      rw [tAt_far hs (by omega)] at this
      cases this
  have hsl : ∀ m j, j ≤ 41 → spn (fun i => low (tAt G i)) m j ≤ 41 := by
    intro m j hj
    by_cases h : spn (fun i => low (tAt G i)) m j ≤ 41
    · exact h
    · have := spn_all (fun i => low (tAt G i)) m j 41 hj (by omega)
      rw [tAt_far hs (by omega)] at this
      cases this
  unfold lexOne at h
  split at h
  · rename_i hd
    split at h
    · cases h
    · cases h
      have h1 : k + 1 ≤ nE1 (tAt G) k := by
        unfold nE1
        rw [spn, if_pos hd]
        exact spn_ge _ _ _
      have h2 : nE1 (tAt G) k ≤ 41 := hsd _ _ (by omega)
      show k < nE (tAt G) k ∧ nE (tAt G) k ≤ 42
      unfold nE
      split
      · rename_i hh
        have h4 : nE1 (tAt G) k < 40 := by
          by_cases h : nE1 (tAt G) k < 40
          · exact h
          · rw [tAt_out (by omega)] at hh; omega
        have := spn_ge (fun j => dgt (tAt G j)) 41 (nE1 (tAt G) k + 1)
        have := hsd 41 (nE1 (tAt G) k + 1) (by omega)
        omega
      · omega
  · split at h
    · rename_i hd
      split at h
      · cases h
      · cases h
        show k < naE (tAt G) k ∧ naE (tAt G) k ≤ 42
        have h1 : k + 1 ≤ naE (tAt G) k := by
          unfold naE
          rw [spn, if_pos hd]
          exact spn_ge _ _ _
        have h2 : naE (tAt G) k ≤ 41 := hsl _ _ (by omega)
        omega
    · split at h
      · split at h
        · rename_i hq
          cases h
          have h1 : k + 1 ≤ qE (tAt G) (zF G 98 1) k := spn_ge _ _ _
          have h2 : qE (tAt G) (zF G 98 1) k < zF G 98 1 := by
            by_cases h : qE (tAt G) (zF G 98 1) k < zF G 98 1
            · exact h
            · rw [tAt_out (by omega)] at hq; omega
          show k < qE (tAt G) (zF G 98 1) k + 1 ∧ qE (tAt G) (zF G 98 1) k + 1 ≤ 42
          omega
        · cases h
      · split at h
        · cases h
          show k < k + 2 ∧ k + 2 ≤ 42
          omega
        · split at h
          · cases h
            show k < k + 1 ∧ k + 1 ≤ 42
            omega
          · cases h
end cut

