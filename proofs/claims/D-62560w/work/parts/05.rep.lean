/-! THE REAL HEAP HOLDS THE PURE ONE. kr: where the constants lie; s0: the heap's size at the law's start; oq: an opaque value; dC: class numbers by tag; dI: slots of fields -/
def rad (kr : Nat → Nat) (s0 a : Nat) : Nat := if a < 64 then kr a else s0 + (a - 64)
def tv (kr : Nat → Nat) (s0 : Nat) (oq : Value) : Value → Value
  | .ref a => .ref (rad kr s0 a)
  | .retAddr _ => oq
  | v => v
/-- what the heaps are compared by: constants' places, size, opaque value, class numbers, slots -/
abbrev mW : Type := (Nat → Nat) × Nat × Value × (Nat → ClassId) × (Nat → Nat → Nat)
abbrev Wkr (D : mW) : Nat → Nat := D.1
abbrev Ws0 (D : mW) : Nat := D.2.1
abbrev WdC (D : mW) : Nat → ClassId := D.2.2.2.1
abbrev WdI (D : mW) : Nat → Nat → Nat := D.2.2.2.2
def Wra (D : mW) (a : Nat) : Nat := rad D.1 D.2.1 a
def Wtv (D : mW) (v : Value) : Value := tv D.1 D.2.1 D.2.2.1 v
def cOK (D : mW) (G : mG) (a : Nat) (cell : Cell) : Prop :=
  (64 ≤ a → cell.vm = .none) ∧ cell.vm ≠ .unknown ∧ cell.vm.isStatics = false ∧ cell.cls = WdC D (tg G a) ∧
  (asrt (tg G a) = 9 → ∀ k, k < cN (tg G a) → cell.slots[WdI D (tg G a) k]? = some (Wtv D (gv G (cS (tg G a) k) a k))) ∧
  (¬ asrt (tg G a) = 9 → cell.slots.size = ln G a ∧ ∀ k, k < ln G a → cell.slots[k]? = some (Wtv D (gv G (asrt (tg G a)) a k)))
/-- tags of constants -/
def cst (t : Nat) : Bool := t == 0 || t == 24 || t == 25 || t == 53 || t == 62 || t == 63
def Rep (D : mW) (H0 : Heap) (G : mG) (H : Heap) : Prop :=
  64 ≤ nx G ∧ H.size = Ws0 D + (nx G - 64) ∧ (∀ a, ¬ tg G a = 0 → a < nx G ∧ ∃ cell, H[Wra D a]? = some cell ∧ cOK D G a cell) ∧
  (∀ q, q < Ws0 D → H[q]? = H0[q]?) ∧ (∀ a, a < 64 → cst (tg G a) = true ∧ (¬ tg G a = 0 → Wkr D a < Ws0 D))
theorem Wra_hi {D : mW} {a : Nat} (h : 64 ≤ a) : Wra D a = Ws0 D + (a - 64) := by
  unfold Wra rad; rw [if_neg (by omega)]
theorem Wra_lo {D : mW} {a : Nat} (h : a < 64) : Wra D a = Wkr D a := by
  unfold Wra rad; rw [if_pos h]
theorem Rep.hi {D : mW} {H0 : Heap} {G : mG} {H : Heap} (h : Rep D H0 G H) {a : Nat} (ha : cst (tg G a) = false) : 64 ≤ a := by
  rcases Nat.lt_or_ge a 64 with q | q
  · have := (h.2.2.2.2 a q).1
    rw [this] at ha; cases ha
  · exact q
/-- two cells that are there lie apart -/
theorem Rep.apart {D : mW} {H0 : Heap} {G : mG} {H : Heap} (h : Rep D H0 G H) {a b : Nat} (ha : 64 ≤ a) (hb : ¬ tg G b = 0) (hne : b ≠ a) : Wra D b ≠ Wra D a := by
  rw [Wra_hi ha]
  rcases Nat.lt_or_ge b 64 with q | q
  · rw [Wra_lo q]
    have := (h.2.2.2.2 b q).2 hb
    omega
  · rw [Wra_hi q]; omega
theorem pv_spec {G G' : mG} {s a k : Nat} {w : Value} (h : pv G s a k w = some G') :
    tg G' = tg G ∧ ln G' = ln G ∧ nx G' = nx G ∧ us G' = us G ∧ gv G' s a k = w ∧ ∀ s' a' k', (a' ≠ a ∨ k' ≠ k) → gv G' s' a' k' = gv G s' a' k' := by
  unfold pv at h
  split at h
  all_goals first
    | (cases h; done)
    | (cases h
       refine ⟨rfl, rfl, rfl, rfl, ?_, ?_⟩
       · simp [gv, gI, gJ, gD, gP, sI, sJ, sD, sP, u2, rv]
       · intro s' a' k' hne
         have hn : ¬ (a' = a ∧ k' = k) := by omega
         unfold gv
         split <;> simp only [gI, gJ, gD, gP, sI, sJ, sD, sP, u2] <;> (congr 1; try congr 1) <;> (repeat' split) <;> first | rfl | (exfalso; omega))
    | (split at h
       · cases h
         refine ⟨rfl, rfl, rfl, rfl, ?_, ?_⟩
         · simp [gv, gI, gJ, gD, gP, sI, sJ, sD, sP, u2, rv]
         · intro s' a' k' hne
           have hn : ¬ (a' = a ∧ k' = k) := by omega
           unfold gv
           split <;> simp only [gI, gJ, gD, gP, sI, sJ, sD, sP, u2] <;> (congr 1; try congr 1) <;> (repeat' split) <;> first | rfl | (exfalso; omega)
       · cases h)
/-- the sort of a type -/
def srt : FieldType → Nat
  | .int => 0
  | .long => 1
  | .double => 2
  | .boolean => 4
  | .char => 5
  | .byte => 6
  | .object _ => 3
  | .array _ => 3
  | _ => 9
theorem chr_iff {x : Int32} : chr x = true ↔ 0 ≤ x.toInt ∧ x.toInt < 65536 := by
  unfold chr; simp
theorem bit_iff {x : Int32} : bit x = true ↔ x = 0 ∨ x = 1 := by
  unfold bit; simp
theorem chr_narrow {x : Int32} (h : chr x = true) : (x.toUInt32 % 65536).toInt32 = x := by
  rw [chr_iff] at h
  have hx : x.toBitVec.toNat < 65536 := by
    have h2 : x.toInt = x.toBitVec.toInt := rfl
    rw [h2] at h
    rw [BitVec.toInt_eq_toNat_cond] at h
    have := x.toBitVec.isLt
    split at h <;> omega
  rw [pk_char, Nat.mod_eq_of_lt hx]
  apply Int32.toBitVec_inj.mp
  show BitVec.ofNat 32 _ = _
  simp
theorem fit_of {D : mW} {G G' : mG} {s a k : Nat} {w : Value} {ty : FieldType} (h : pv G s a k w = some G') (hs : srt ty = s) : narrow ty (Wtv D w) = Wtv D w ∧ fits ty (Wtv D w) = true := by
  subst hs
  cases w <;> cases ty <;> simp only [pv, srt] at h <;> first
    | (cases h; done)
    | (exact ⟨rfl, rfl⟩)
    | skip
  · split at h
    · rename_i x hx
      refine ⟨?_, ?_⟩
      · show narrow .char (.int x) = .int x
        have h1 := chr_narrow hx
        have h2 : narrow .char (.int x) = .int (x.toUInt32 % 65536).toInt32 := by
          have h3 := pk_nc x
          rw [h1] at h3
          rw [h1]; exact h3
        rw [h2, h1]
      · show fits .char (.int x) = true
        have h1 := chr_narrow hx
        rw [← h1]; exact pk_fc x
    · cases h
  · split at h
    · rename_i x hx
      rcases bit_iff.mp hx with rfl | rfl
      · exact ⟨rfl, rfl⟩
      · exact ⟨rfl, rfl⟩
    · cases h
theorem setSlot_self {cell : Cell} {i : Nat} {v : Value} (h : i < cell.slots.size) : (cell.setSlot i v).slots[i]? = some v := by
  simp [Cell.setSlot, h]
theorem setSlot_other {cell : Cell} {i j : Nat} {v : Value} (h : j ≠ i) : (cell.setSlot i v).slots[j]? = cell.slots[j]? := by
  simp [Cell.setSlot, Array.getElem?_setIfInBounds, Ne.symm h]
theorem setSlot_size {cell : Cell} {i : Nat} {v : Value} : (cell.setSlot i v).slots.size = cell.slots.size := by
  simp [Cell.setSlot]
theorem cOK_same {D : mW} {G G' : mG} {a : Nat} {cell : Cell} (h : cOK D G a cell) (ht : tg G' = tg G) (hl : ln G' = ln G) (hg : ∀ s k, gv G' s a k = gv G s a k) : cOK D G' a cell := by
  obtain ⟨h1, h2, h3, h4, h5, h6⟩ := h
  refine ⟨h1, h2, h3, ?_, ?_, ?_⟩
  · rw [ht]; exact h4
  · rw [ht]; intro q k hk; rw [hg]; exact h5 q k hk
  · rw [ht, hl]; intro q
    exact ⟨(h6 q).1, fun k hk => by rw [hg]; exact (h6 q).2 k hk⟩
theorem Rep.put {D : mW} {H0 H H' : Heap} {G G' : mG} {a s b : Nat} {w : Value} {cell' : Cell} (h : Rep D H0 G H) (hmut : cst (tg G a) = false) (hp : pv G s a b w = some G')
    (h1 : H'[Wra D a]? = some cell') (hc : cOK D G' a cell') (h2 : H'.size = H.size) (h3 : ∀ q, q ≠ Wra D a → H'[q]? = H[q]?) : Rep D H0 G' H' := by
  obtain ⟨e1, e2, e3, e4, e5, e6⟩ := pv_spec hp
  have ha := h.hi hmut
  obtain ⟨r1, r2, r3, r4, r5⟩ := id h
  refine ⟨by rw [e3]; exact r1, by rw [h2, e3]; exact r2, ?_, ?_, ?_⟩
  · intro x hx
    rw [e1] at hx
    obtain ⟨hlt, cx, hcx, hok⟩ := r3 x hx
    refine ⟨by rw [e3]; exact hlt, ?_⟩
    by_cases hxa : x = a
    · subst hxa; exact ⟨cell', h1, hc⟩
    · refine ⟨cx, by rw [h3 _ (h.apart ha hx hxa)]; exact hcx, cOK_same hok e1 e2 (fun s' k' => e6 s' x k' (Or.inl hxa))⟩
  · intro q hq
    rw [h3 q (by rw [Wra_hi ha]; omega)]
    exact r4 q hq
  · intro x hx
    rw [e1]; exact r5 x hx
/-- a field of an object is set -/
theorem Rep.putO {D : mW} {H0 H H' : Heap} {G G' : mG} {a c b : Nat} {w : Value} {cell : Cell} (h : Rep D H0 G H) (ht : tg G a = c) (hobj : asrt c = 9) (hmut : cst c = false) (hp : pv G (cS c b) a b w = some G')
    (hap : ∀ k, k < cN c → k ≠ b → WdI D c k ≠ WdI D c b) (hok : cOK D G a cell) (hlt : WdI D c b < cell.slots.size)
    (h1 : H'[Wra D a]? = some (cell.setSlot (WdI D c b) (Wtv D w))) (h2 : H'.size = H.size) (h3 : ∀ q, q ≠ Wra D a → H'[q]? = H[q]?) : Rep D H0 G' H' := by
  subst ht
  refine h.put hmut hp h1 ?_ h2 h3
  obtain ⟨e1, e2, e3, e4, e5, e6⟩ := pv_spec hp
  obtain ⟨k1, k2, k3, k4, k5, k6⟩ := hok
  refine ⟨k1, k2, k3, by rw [e1]; exact k4, ?_, ?_⟩
  · rw [e1]; intro q k hk
    by_cases hkb : k = b
    · subst hkb; rw [setSlot_self hlt, e5]
    · rw [setSlot_other (hap k hk hkb), e6 _ _ _ (Or.inr hkb)]; exact k5 q k hk
  · rw [e1]; intro q; exact absurd hobj q
/-- a place of an array is set -/
theorem Rep.putA {D : mW} {H0 H H' : Heap} {G G' : mG} {a i : Nat} {w : Value} {cell : Cell} (h : Rep D H0 G H) (hobj : ¬ asrt (tg G a) = 9) (hmut : cst (tg G a) = false) (hp : pv G (asrt (tg G a)) a i w = some G')
    (hok : cOK D G a cell) (hlt : i < ln G a)
    (h1 : H'[Wra D a]? = some (cell.setSlot i (Wtv D w))) (h2 : H'.size = H.size) (h3 : ∀ q, q ≠ Wra D a → H'[q]? = H[q]?) : Rep D H0 G' H' := by
  refine h.put hmut hp h1 ?_ h2 h3
  obtain ⟨e1, e2, e3, e4, e5, e6⟩ := pv_spec hp
  obtain ⟨k1, k2, k3, k4, k5, k6⟩ := hok
  refine ⟨k1, k2, k3, by rw [e1]; exact k4, ?_, ?_⟩
  · rw [e1]; intro q; exact absurd q hobj
  · rw [e1, e2]; intro q
    refine ⟨by rw [setSlot_size]; exact (k6 q).1, fun k hk => ?_⟩
    by_cases hkb : k = i
    · subst hkb; rw [setSlot_self (by rw [(k6 q).1]; exact hlt), e5]
    · rw [setSlot_other hkb, e6 _ _ _ (Or.inr hkb)]; exact (k6 q).2 k hk
theorem al_tg (G : mG) (t n w a : Nat) : tg (al G t n w) a = if a = nx G then t else tg G a := rfl
theorem al_ln (G : mG) (t n w a : Nat) : ln (al G t n w) a = if a = nx G then n else ln G a := rfl
theorem al_nx (G : mG) (t n w : Nat) : nx (al G t n w) = nx G + 1 := rfl
theorem al_us (G : mG) (t n w : Nat) : us (al G t n w) = us G + w := rfl
theorem al_gv {G : mG} {t n w s a k : Nat} (h : a ≠ nx G) : gv (al G t n w) s a k = gv G s a k := by
  unfold gv gI gJ gD gP al u1
  dsimp only
  simp only [if_neg h]
/-- the zero of a sort -/
def zv (s : Nat) : Value := match s with
  | 1 => .long 0
  | 2 => .double 0
  | 3 => .null
  | _ => .int 0
theorem al_gv0 {G : mG} {t n w s k : Nat} : gv (al G t n w) s (nx G) k = zv s := by
  unfold gv zv gI gJ gD gP al u1
  dsimp only
  split <;> simp [rv]
theorem Rep.alloc {D : mW} {H0 H H' : Heap} {G : mG} {t n w : Nat} {cell : Cell} (h : Rep D H0 G H) (h1 : H'[H.size]? = some cell) (hc : cOK D (al G t n w) (nx G) cell)
    (h2 : H'.size = H.size + 1) (h3 : ∀ q, q < H.size → H'[q]? = H[q]?) : Rep D H0 (al G t n w) H' := by
  obtain ⟨r1, r2, r3, r4, r5⟩ := id h
  have hra : Wra D (nx G) = H.size := by rw [Wra_hi r1, r2]
  refine ⟨by rw [al_nx]; omega, by rw [h2, al_nx]; omega, ?_, ?_, ?_⟩
  · intro a ha
    rw [al_tg] at ha
    rw [al_nx]
    by_cases hn : a = nx G
    · subst hn
      exact ⟨by omega, cell, by rw [hra]; exact h1, hc⟩
    · rw [if_neg hn] at ha
      obtain ⟨hlt, cx, hcx, k1, k2, k3, k4, k5, k6⟩ := r3 a ha
      refine ⟨by omega, cx, ?_, ?_⟩
      · rw [h3 _ (Array.getElem?_eq_some_iff.mp hcx).1]; exact hcx
      · refine ⟨k1, k2, k3, ?_, ?_, ?_⟩
        · rw [al_tg, if_neg hn]; exact k4
        · rw [al_tg, if_neg hn]; intro q k hk; rw [al_gv hn]; exact k5 q k hk
        · rw [al_tg, if_neg hn, al_ln, if_neg hn]; intro q
          exact ⟨(k6 q).1, fun k hk => by rw [al_gv hn]; exact (k6 q).2 k hk⟩
  · intro q hq
    rw [h3 q (by omega)]; exact r4 q hq
  · intro a ha
    rw [al_tg, if_neg (by omega)]; exact r5 a ha
