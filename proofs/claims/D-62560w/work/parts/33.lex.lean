/-! THE LEXER, as plain functions of the text (f k: the sign at place k, 0 behind the end; n: its length) -/
def dgt (c : Int) : Bool := decide (48 ≤ c) && decide (c ≤ 57)
def low (c : Int) : Bool := decide (97 ≤ c) && decide (c ≤ 122)
theorem dgt_iff {c : Int} : dgt c = true ↔ 48 ≤ c ∧ c ≤ 57 := by unfold dgt; simp
theorem low_iff {c : Int} : low c = true ↔ 97 ≤ c ∧ c ≤ 122 := by unfold low; simp
/-- the first place from k on where p fails -/
def spn (p : Int → Bool) : Nat → Int → Int
  | 0, k => k
  | m + 1, k => if p k = true then spn p m (k + 1) else k
theorem spn_ge (p : Int → Bool) : ∀ m k, k ≤ spn p m k := by
  intro m
  induction m with
  | zero => intro k; exact Int.le_refl k
  | succ m ih =>
    intro k
    rw [spn]
    split
    · have := ih (k + 1); omega
    · omega
theorem spn_le (p : Int → Bool) : ∀ m k, spn p m k ≤ k + m := by
  intro m
  induction m with
  | zero => intro k; simp [spn]
  | succ m ih =>
    intro k
    rw [spn]
    split
    · have := ih (k + 1); omega
    · omega
theorem spn_all (p : Int → Bool) : ∀ m k j, k ≤ j → j < spn p m k → p j = true := by
  intro m
  induction m with
  | zero => intro k j h1 h2; simp [spn] at h2; omega
  | succ m ih =>
    intro k j h1 h2
    rw [spn] at h2
    split at h2
    · rename_i hp
      by_cases hj : j = k
      · rw [hj]; exact hp
      · exact ih (k + 1) j (by omega) h2
    · omega
theorem spn_end (p : Int → Bool) : ∀ m k, spn p m k < k + m → p (spn p m k) = false := by
  intro m
  induction m with
  | zero => intro k h; simp [spn] at h
  | succ m ih =>
    intro k h
    rw [spn] at h ⊢
    split at h
    · rename_i hp
      rw [if_pos hp]
      exact ih (k + 1) (by omega)
    · rename_i hp
      rw [if_neg hp]
      simpa using hp
/-- the digits from k on, behind v -/
def dvl (f : Int → Int) : Nat → Int → Int → Int
  | 0, _, v => v
  | m + 1, k, v => if dgt (f k) = true then dvl f m (k + 1) (v * 10 + f k - 48) else v
/-- the name from k on, behind v: at most six signs of it count -/
def nvl (f : Int → Int) (k0 : Int) : Nat → Int → Int → Int
  | 0, _, v => v
  | m + 1, k, v => if low (f k) = true then nvl f k0 m (k + 1) (if k - k0 < 6 then v * 27 + f k - 97 + 1 else v) else v
def nE1 (f : Int → Int) (k : Int) : Int := spn (fun j => dgt (f j)) 41 k
def hasF (f : Int → Int) (k : Int) : Prop := f k = 46 ∧ dgt (f (k + 1)) = true
def sgTwo (c d : Int) : Bool := decide (d = 61 ∧ (c = 60 ∨ c = 62 ∨ c = 61 ∨ c = 33) ∨ c = 38 ∧ d = 38 ∨ c = 124 ∧ d = 124 ∨ c = 63 ∧ (d = 58 ∨ d = 46))
def sgOne (c : Int) : Bool := decide (c = 43 ∨ c = 45 ∨ c = 42 ∨ c = 47 ∨ c = 37 ∨ c = 60 ∨ c = 62 ∨ c = 33 ∨ c = 63 ∨ c = 58 ∨ c = 46 ∨ c = 40 ∨ c = 41 ∨ c = 44 ∨ c = 35 ∨ c = 61)
theorem sgTwo_iff {c d : Int} : sgTwo c d = true ↔ (d = 61 ∧ (c = 60 ∨ c = 62 ∨ c = 61 ∨ c = 33) ∨ c = 38 ∧ d = 38 ∨ c = 124 ∧ d = 124 ∨ c = 63 ∧ (d = 58 ∨ d = 46)) := by unfold sgTwo; exact decide_eq_true_iff
theorem sgOne_iff {c : Int} : sgOne c = true ↔ (c = 43 ∨ c = 45 ∨ c = 42 ∨ c = 47 ∨ c = 37 ∨ c = 60 ∨ c = 62 ∨ c = 33 ∨ c = 63 ∨ c = 58 ∨ c = 46 ∨ c = 40 ∨ c = 41 ∨ c = 44 ∨ c = 35 ∨ c = 61) := by unfold sgOne; exact decide_eq_true_iff
theorem spn_more {p : Int → Bool} (m : Nat) : ∀ (n : Nat) (k : Int), (∀ j, k + n ≤ j → p j = false) → spn p (n + m) k = spn p n k := by
  intro n
  induction n with
  | zero =>
    intro k h
    cases m with
    | zero => rfl
    | succ m =>
      have h0 := h k (by omega)
      simp [spn, h0]
  | succ n ih =>
    intro k h
    rw [show n + 1 + m = (n + m) + 1 by omega, spn, spn]
    split
    · exact ih (k + 1) (fun j hj => h j (by omega))
    · rfl
theorem dvl_more {f : Int → Int} (m : Nat) : ∀ (n : Nat) (k v : Int), (∀ j, k + n ≤ j → dgt (f j) = false) → dvl f (n + m) k v = dvl f n k v := by
  intro n
  induction n with
  | zero =>
    intro k v h
    cases m with
    | zero => rfl
    | succ m =>
      have h0 := h k (by omega)
      simp [dvl, h0]
  | succ n ih =>
    intro k v h
    rw [show n + 1 + m = (n + m) + 1 by omega, dvl, dvl]
    split
    · exact ih (k + 1) _ (fun j hj => h j (by omega))
    · rfl
theorem nvl_more {f : Int → Int} {k0 : Int} (m : Nat) : ∀ (n : Nat) (k v : Int), (∀ j, k + n ≤ j → low (f j) = false) → nvl f k0 (n + m) k v = nvl f k0 n k v := by
  intro n
  induction n with
  | zero =>
    intro k v h
    cases m with
    | zero => rfl
    | succ m =>
      have h0 := h k (by omega)
      simp [nvl, h0]
  | succ n ih =>
    intro k v h
    rw [show n + 1 + m = (n + m) + 1 by omega, nvl, nvl]
    split
    · exact ih (k + 1) _ (fun j hj => h j (by omega))
    · rfl
/-- the end of a number; its value; how many signs behind the point -/
def nE (f : Int → Int) (k : Int) : Int := if f (nE1 f k) = 46 ∧ dgt (f (nE1 f k + 1)) = true then spn (fun j => dgt (f j)) 41 (nE1 f k + 1) else nE1 f k
def nV (f : Int → Int) (k : Int) : Int := if f (nE1 f k) = 46 ∧ dgt (f (nE1 f k + 1)) = true then dvl f 41 (nE1 f k + 1) (dvl f 41 k 0) else dvl f 41 k 0
def nP (f : Int → Int) (k : Int) : Int := if f (nE1 f k) = 46 ∧ dgt (f (nE1 f k + 1)) = true then spn (fun j => dgt (f j)) 41 (nE1 f k + 1) - (nE1 f k + 1) else 0
def nBad (f : Int → Int) (k : Int) : Prop := nE1 f k - k > 6 ∨ nP f k > 3
/-- the end of a name; its value -/
def naE (f : Int → Int) (k : Int) : Int := spn (fun j => low (f j)) 41 k
def naV (f : Int → Int) (k : Int) : Int := nvl f k 41 k 0
/-- where the twin stops within a quoted text that begins at k0; the signs, packed -/
def qp (f : Int → Int) (n k0 : Int) (j : Int) : Bool := decide (j < n) && (decide (¬ f j = 39) && decide (j - k0 ≤ 8))
def qvl (f : Int → Int) (n k0 : Int) : Nat → Int → Int → Int
  | 0, _, v => v
  | m + 1, k, v => if qp f n k0 k = true then qvl f n k0 m (k + 1) (v + f k * 2 ^ (7 * (k - k0 - 1).toNat)) else v
theorem qp_iff {f : Int → Int} {n k0 j : Int} : qp f n k0 j = true ↔ j < n ∧ ¬ f j = 39 ∧ j - k0 ≤ 8 := by unfold qp; simp
theorem qvl_more {f : Int → Int} {n0 k0 : Int} (m : Nat) : ∀ (n : Nat) (k v : Int), (∀ j, k + n ≤ j → qp f n0 k0 j = false) → qvl f n0 k0 (n + m) k v = qvl f n0 k0 n k v := by
  intro n
  induction n with
  | zero =>
    intro k v h
    cases m with
    | zero => rfl
    | succ m =>
      have h0 := h k (by omega)
      simp [qvl, h0]
  | succ n ih =>
    intro k v h
    rw [show n + 1 + m = (n + m) + 1 by omega, qvl, qvl]
    split
    · exact ih (k + 1) _ (fun j hj => h j (by omega))
    · rfl
def qE (f : Int → Int) (n k : Int) : Int := spn (qp f n k) 41 (k + 1)
def qV (f : Int → Int) (n k : Int) : Int := qvl f n k 41 (k + 1) 0
/-- a token's kind and end, if it is one -/
def lexOne (f : Int → Int) (n k : Int) : Option (Int × Int) :=
  if dgt (f k) = true then (if nE1 f k - k > 6 ∨ nP f k > 3 then none else some (if nP f k > 0 then 11776 else 48, nE f k))
  else if low (f k) = true then (if naE f k - k > 5 then none else some (97, naE f k))
  else if f k = 39 then (if f (qE f n k) = 39 then some (39, qE f n k + 1) else none)
  else if sgTwo (f k) (f (k + 1)) = true then some (256 * f k + f (k + 1), k + 2)
  else if sgOne (f k) = true then some (f k, k + 1) else none
/-- the tokens (kind, place, length), or the place of the first bad one -/
def lexL (f : Int → Int) (n : Int) : Nat → Int → Int ⊕ List (Int × Int × Int)
  | 0, _ => .inr []
  | m + 1, k => if k < n then (if f k = 32 then lexL f n m (k + 1) else match lexOne f n k with
    | none => .inl k
    | some q => match lexL f n m q.2 with
      | .inl p => .inl p
      | .inr ts => .inr ((q.1, k, q.2 - k) :: ts)) else .inr []
/-- the twin's kind, value and scale of a token -/
def tkc (k : Int) : Int := if k = 48 then 1 else if k = 11776 then 2 else if k = 97 then 3 else if k = 39 then 4 else if k = 36 then 0 else 5
def tkv (f : Int → Int) (n k p : Int) : Int := if k = 48 ∨ k = 11776 then nV f p else if k = 97 then naV f p else if k = 39 then qV f n p + (qE f n p - p - 1) * 2 ^ 56 else if k = 36 then 0 else k
def tks (f : Int → Int) (k p : Int) : Int := if k = 48 ∨ k = 11776 then nP f p else 0

