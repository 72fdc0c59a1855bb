/-! THE TWIN's PLACE: its object lies at 98, its arrays behind it -/
set_option maxRecDepth 100000
def twTs : List Nat := [21, 50, 50, 50, 54, 50, 50, 54, 50, 50, 50, 50, 50, 50, 50, 51, 51, 51, 50, 50, 50, 50, 50, 50, 50, 50, 50, 50, 50, 50, 50, 51, 50, 50, 50, 54, 54, 55, 50]
def twLs : List Nat := [0, 40, 42, 42, 42, 42, 3600, 3600, 40, 8, 8, 8, 8, 8, 8, 8, 8, 8, 48, 48, 48, 5, 5, 30, 30, 5, 30, 30, 30, 30, 30, 65, 30, 12, 980, 980, 980, 980, 48]
def twPs : List (Option Nat) := [none, none, some 99, none, some 100, some 101, some 102, some 103, none, none, none, some 104, some 105, some 106, none, none, none, none, none, none, some 107, some 108, some 109, some 110, some 111, some 112, some 113, some 114, some 115, none, some 116, some 117, some 118, none, none, none, some 119, some 120, some 121, some 122, some 123, some 124, some 125, some 126, some 127, some 128, some 129, none, some 130, none, some 131, some 132, some 133, some 134, some 135, none, none, none, some 136, none]
def twT (a : Nat) : Option Nat := if a < 98 then none else twTs[a - 98]?
def twL (a : Nat) : Option Nat := if a < 98 then none else twLs[a - 98]?
def twP (k : Nat) : Option Nat := (twPs[k]?).getD none
def TS (G : mG) : Prop := (∀ a t, twT a = some t → tg G a = t) ∧ (∀ a n, twL a = some n → ln G a = n) ∧ ∀ k y, twP k = some y → gP G 98 k = some y
theorem TS.t {G : mG} (h : TS G) {a t : Nat} (e : twT a = some t) : tg G a = t := h.1 a t e
theorem TS.n {G : mG} (h : TS G) {a n : Nat} (e : twL a = some n) : ln G a = n := h.2.1 a n e
theorem TS.p {G : mG} (h : TS G) {k y : Nat} (e : twP k = some y) : gP G 98 k = some y := h.2.2 k y e
theorem TS.o {G : mG} (h : TS G) : tg G 98 = 21 := h.t rfl
theorem TS.wF {G : mG} (h : TS G) {x k : Nat} {v : Int} : TS (wF G x k v) := h
theorem TS.wA {G : mG} (h : TS G) {x : Nat} {k v : Int} : TS (wA G x k v) := h
theorem TS.wJ {G : mG} (h : TS G) {x : Nat} {k : Int} {v : Int64} : TS (wJ G x k v) := h
theorem TS.wD {G : mG} (h : TS G) {x : Nat} {k : Int} {v : UInt64} : TS (wD G x k v) := h
/-! reading behind writing -/
theorem wr_lit (n : Nat) (h : n < 2147483648) : wr (OfNat.ofNat n : Int) = (OfNat.ofNat n : Int) := by
  have e : (OfNat.ofNat n : Int) = (n : Int) := rfl
  rw [e]
  exact wr_id (by omega) (by omega)
theorem wr0 : wr 0 = 0 := rfl
theorem wr1 : wr 1 = 1 := rfl
theorem wrm1 : wr (-1) = -1 := rfl
theorem wr_zF (G : mG) (x k : Nat) : wr (zF G x k) = zF G x k := by unfold zF wr; rw [N_toInt]
theorem wr_zA (G : mG) (x : Nat) (k : Int) : wr (zA G x k) = zA G x k := by unfold zA wr; rw [N_toInt]
theorem wrJ_zL (G : mG) (x : Nat) (k : Int) : wrJ (zL G x k) = zL G x k := by unfold zL wrJ; rw [J_toInt]
theorem zF_lo (G : mG) (x k : Nat) : -2147483648 ≤ zF G x k := toInt_lo _
theorem zF_hi (G : mG) (x k : Nat) : zF G x k < 2147483648 := toInt_hi _
theorem zA_lo (G : mG) (x : Nat) (k : Int) : -2147483648 ≤ zA G x k := toInt_lo _
theorem zA_hi (G : mG) (x : Nat) (k : Int) : zA G x k < 2147483648 := toInt_hi _
section rw
variable (G : mG) (x y k q : Nat) (i j v : Int) (u : Int64) (f : UInt64) (o : Option Nat)
theorem zF_wF : zF (wF G x k v) y q = if y = x then (if q = k then wr v else zF G y q) else zF G y q := by
  unfold zF wF wr
  show (u2 G.2.2.1 x k (N v) y q).toInt = _
  unfold u2
  by_cases h1 : y = x
  · by_cases h2 : q = k
    · simp [h1, h2]
    · simp [h1, h2]; rfl
  · simp [h1]; rfl
theorem zF_wA (h : y ≠ x) : zF (wA G x i v) y q = zF G y q := by
  unfold zF wA
  show (u2 G.2.2.1 x i.toNat (N v) y q).toInt = _
  unfold u2
  rw [if_neg h]; rfl
theorem zA_wF (h : y ≠ x) : zA (wF G x k v) y j = zA G y j := by
  unfold zA wF
  show (u2 G.2.2.1 x k (N v) y j.toNat).toInt = _
  unfold u2
  rw [if_neg h]; rfl
theorem zA_wA : zA (wA G x i v) y j = if y = x then (if j.toNat = i.toNat then wr v else zA G y j) else zA G y j := by
  unfold zA wA wr
  show (u2 G.2.2.1 x i.toNat (N v) y j.toNat).toInt = _
  unfold u2
  by_cases h1 : y = x
  · by_cases h2 : j.toNat = i.toNat
    · simp [h1, h2]
    · simp [h1, h2]; rfl
  · simp [h1]; rfl
theorem jA_wJ : jA (wJ G x i u) y j = if y = x then (if j.toNat = i.toNat then u else jA G y j) else jA G y j := by
  unfold jA wJ
  show u2 G.2.2.2.1 x i.toNat u y j.toNat = _
  unfold u2
  by_cases h1 : y = x
  · by_cases h2 : j.toNat = i.toNat
    · simp [h1, h2]
    · simp [h1, h2]; rfl
  · simp [h1]; rfl
theorem dA_wD : dA (wD G x i f) y j = if y = x then (if j.toNat = i.toNat then f else dA G y j) else dA G y j := by
  unfold dA wD
  show u2 G.2.2.2.2.1 x i.toNat f y j.toNat = _
  unfold u2
  by_cases h1 : y = x
  · by_cases h2 : j.toNat = i.toNat
    · simp [h1, h2]
    · simp [h1, h2]; rfl
  · simp [h1]; rfl
theorem zL_wJ : zL (wJ G x i u) y j = if y = x then (if j.toNat = i.toNat then u.toInt else zL G y j) else zL G y j := by
  unfold zL wJ
  show (u2 G.2.2.2.1 x i.toNat u y j.toNat).toInt = _
  unfold u2
  by_cases h1 : y = x
  · by_cases h2 : j.toNat = i.toNat
    · simp [h1, h2]
    · simp [h1, h2]; rfl
  · simp [h1]; rfl
theorem zL_wF : zL (wF G x k v) y j = zL G y j := rfl
theorem zL_wA : zL (wA G x i v) y j = zL G y j := rfl
theorem zL_wD : zL (wD G x i f) y j = zL G y j := rfl
theorem zL_jA : zL G y j = (jA G y j).toInt := rfl
theorem J_wr (z : Int) : (J z).toInt = wrJ z := rfl
theorem zF_wJ : zF (wJ G x i u) y q = zF G y q := rfl
theorem zF_wD : zF (wD G x i f) y q = zF G y q := rfl
theorem zA_wJ : zA (wJ G x i u) y j = zA G y j := rfl
theorem zA_wD : zA (wD G x i f) y j = zA G y j := rfl
theorem jA_wF : jA (wF G x k v) y j = jA G y j := rfl
theorem jA_wA : jA (wA G x i v) y j = jA G y j := rfl
theorem jA_wD : jA (wD G x i f) y j = jA G y j := rfl
theorem dA_wF : dA (wF G x k v) y j = dA G y j := rfl
theorem dA_wA : dA (wA G x i v) y j = dA G y j := rfl
theorem dA_wJ : dA (wJ G x i u) y j = dA G y j := rfl
end rw
theorem RI.mk {P : Int → mG → Prop} {z : Int} {G : mG} (h : P z G) : RI P (.returned (some (.int (N z))), G) := ⟨z, rfl, h⟩
theorem RV.mk {P : mG → Prop} {G : mG} (h : P G) : RV P (.returned none, G) := ⟨rfl, h⟩
theorem RW.mk {P : Value → mG → Prop} {w : Value} {G : mG} (h : P w G) : RW P (.returned (some w), G) := ⟨w, rfl, h⟩
