/-! RULES: one instruction of the pure machine, goal first. Ints are N z, z a whole number. -/
set_option maxRecDepth 100000
def Wp (x : mC) (Q : mR → Prop) : Prop := ∃ r, Ev x r ∧ Q r
theorem Wp.next {x y : mC} {Q : mR → Prop} (ha : act x = some (.inl y)) (k : Wp y Q) : Wp x Q := by
  obtain ⟨r, h1, h2⟩ := k
  exact ⟨r, Ev.next ha h1, h2⟩
theorem Wp.out {x : mC} {r : mR} {Q : mR → Prop} (ha : act x = some (.inr (.inl r))) (h : Q r) : Wp x Q := ⟨r, Ev.out ha, h⟩
theorem Wp.mono {x : mC} {Q Q' : mR → Prop} (k : Wp x Q) (h : ∀ r, Q r → Q' r) : Wp x Q' := by
  obtain ⟨r, h1, h2⟩ := k
  exact ⟨r, h1, h r h2⟩
theorem Wp.call {x y : mC} {Q Q1 : mR → Prop} (ha : act x = some (.inr (.inr y))) (k : Wp y Q1) (h : ∀ r1, Q1 r1 → (∃ z, aft x r1 = some (.inl z) ∧ Wp z Q) ∨ (aft x r1 = some (.inr r1) ∧ Q r1)) : Wp x Q := by
  obtain ⟨r1, h1, h2⟩ := k
  rcases h r1 h2 with ⟨z, h3, r, h4, h5⟩ | ⟨h3, h4⟩
  · exact ⟨r, Ev.call ha h1 h3 h4, h5⟩
  · exact ⟨r1, Ev.callOut ha h1 h3, h4⟩
/-- whole numbers as ints -/
def N (z : Int) : Int32 := Int32.ofInt z
/-- a whole number, wrapped to 32 bits -/
def wr (z : Int) : Int := (N z).toInt
theorem N_toInt (x : Int32) : N x.toInt = x := Int32.ofInt_toInt x
theorem wr_id {z : Int} (h1 : -2147483648 ≤ z) (h2 : z < 2147483648) : wr z = z := by
  unfold wr N
  exact Int32.toInt_ofInt_of_le (by simpa using h1) (by simpa using h2)
theorem N_wr (z : Int) : N (wr z) = N z := N_toInt (N z)
theorem wr_wr (z : Int) : wr (wr z) = wr z := by unfold wr; rw [N_toInt]
theorem toInt_lo (x : Int32) : -2147483648 ≤ x.toInt := by
  have := Int32.minValue_le_toInt x
  simpa using this
theorem toInt_hi (x : Int32) : x.toInt < 2147483648 := Int32.toInt_lt x
theorem wr_lo (z : Int) : -2147483648 ≤ wr z := toInt_lo _
theorem wr_hi (z : Int) : wr z < 2147483648 := toInt_hi _
theorem N_add (a b : Int) : N a + N b = N (a + b) := (Int32.ofInt_add a b).symm
theorem N_sub (a b : Int) : N a - N b = N (a - b) := (Int32.ofInt_sub a b).symm
theorem N_mul (a b : Int) : N a * N b = N (a * b) := (Int32.ofInt_mul a b).symm
theorem N_neg (a : Int) : - N a = N (-a) := (Int32.ofInt_neg a).symm
theorem N_lt (a b : Int) : N a < N b ↔ wr a < wr b := Int32.lt_iff_toInt_lt
theorem N_le (a b : Int) : N a ≤ N b ↔ wr a ≤ wr b := Int32.le_iff_toInt_le
theorem N_eq (a b : Int) : N a = N b ↔ wr a = wr b := Int32.toInt_inj.symm
theorem N0 : (0 : Int32) = N 0 := rfl
/-- whole numbers as longs -/
def J (z : Int) : Int64 := Int64.ofInt z
def wrJ (z : Int) : Int := (J z).toInt
theorem J_toInt (x : Int64) : J x.toInt = x := Int64.ofInt_toInt x
theorem wrJ_id {z : Int} (h1 : -9223372036854775808 ≤ z) (h2 : z < 9223372036854775808) : wrJ z = z := by
  unfold wrJ J
  exact Int64.toInt_ofInt_of_le (by simpa using h1) (by simpa using h2)
theorem J_wrJ (z : Int) : J (wrJ z) = J z := J_toInt (J z)
theorem J_add (a b : Int) : J a + J b = J (a + b) := (Int64.ofInt_add a b).symm
theorem J_sub (a b : Int) : J a - J b = J (a - b) := (Int64.ofInt_sub a b).symm
theorem J_mul (a b : Int) : J a * J b = J (a * b) := (Int64.ofInt_mul a b).symm
theorem J_neg (a : Int) : - J a = J (-a) := (Int64.ofInt_neg a).symm
theorem J_lt (a b : Int) : J a < J b ↔ wrJ a < wrJ b := Int64.lt_iff_toInt_lt
theorem J_le (a b : Int) : J a ≤ J b ↔ wrJ a ≤ wrJ b := Int64.le_iff_toInt_le
theorem J_eq (a b : Int) : J a = J b ↔ wrJ a = wrJ b := Int64.toInt_inj.symm
theorem J0 : (0 : Int64) = J 0 := rfl
theorem J_div (x y : Int) : J x / J y = J (Int.tdiv (wrJ x) (wrJ y)) := by
  apply Int64.toInt_inj.mp
  rw [Int64.toInt_div]
  first
    | exact Int64.toInt_ofInt.symm
    | (unfold J; rw [Int64.toInt_ofInt]; rfl)
theorem J_ofNat (a : Nat) : Int64.ofNat a = J a := by unfold J; rw [Int64.ofInt_eq_ofNat]
theorem N_long (z : Int) : (N z).toInt64 = J (wr z) := by
  apply Int64.toInt_inj.mp
  rw [Int32.toInt_toInt64]
  show wr z = wrJ (wr z)
  exact (wrJ_id (by have := wr_lo z; omega) (by have := wr_hi z; omega)).symm
theorem J_int (z : Int) : (J z).toInt32 = N z := by
  apply Int32.toInt_inj.mp
  unfold J N
  rw [Int64.toInt_toInt32, Int64.toInt_ofInt, Int32.toInt_ofInt]
  exact Int.bmod_bmod_of_dvd (by decide)
/-- fields and places, as whole numbers -/
def zF (G : mG) (x k : Nat) : Int := (gI G x k).toInt
def zA (G : mG) (x : Nat) (i : Int) : Int := (gI G x i.toNat).toInt
def jA (G : mG) (x : Nat) (i : Int) : Int64 := gJ G x i.toNat
def dA (G : mG) (x : Nat) (i : Int) : UInt64 := gD G x i.toNat
def pA (G : mG) (x : Nat) (i : Int) : Option Nat := gP G x i.toNat
/-- a place of longs, as a whole number -/
def zL (G : mG) (x : Nat) (i : Int) : Int := (gJ G x i.toNat).toInt
def wF (G : mG) (x k : Nat) (v : Int) : mG := sI G x k (N v)
def wA (G : mG) (x : Nat) (i v : Int) : mG := sI G x i.toNat (N v)
def wJ (G : mG) (x : Nat) (i : Int) (v : Int64) : mG := sJ G x i.toNat v
def wD (G : mG) (x : Nat) (i : Int) (v : UInt64) : mG := sD G x i.toNat v
def wP (G : mG) (x : Nat) (i : Int) (v : Option Nat) : mG := sP G x i.toNat v
theorem inbN {z : Int} {n : Nat} (h : 0 ≤ z ∧ z < n) (hn : n ≤ 100000) : inb (N z) n = true ∧ (N z).toNatClampNeg = z.toNat := by
  have e : (N z).toInt = z := wr_id (by omega) (by omega)
  refine ⟨?_, ?_⟩
  · unfold inb
    rw [e]
    simp
    omega
  · show (N z).toInt.toNat = z.toNat
    rw [e]
theorem ldI (G : mG) (x k : Nat) : Value.int (gI G x k) = Value.int (N (zF G x k)) := by unfold zF; rw [N_toInt]
theorem N_div (x y : Int) : N x / N y = N (Int.tdiv (wr x) (wr y)) := by
  apply Int32.toInt_inj.mp
  rw [Int32.toInt_div]
  first
    | exact Int32.toInt_ofInt.symm
    | (unfold N; rw [Int32.toInt_ofInt]; rfl)
section rules
variable {d m pc a b c n : Nat} {v : Int32} {ts : List Nat} {L : mL} {st : List Value} {G : mG} {Q : mR → Prop}
theorem w_load {x : Value} (he : ft m pc = some (1, v, a, b, c, n, ts)) (hL : L[a]? = some (some x)) (ht : tyo b x = true) (k : Wp (d, m, n, L, x :: st, G) Q) : Wp (d, m, pc, L, st, G) Q := Wp.next (by simp only [act, he, acte, jmp, hL, ht, if_true]) k
theorem w_st0 {x : Value} {l0 : Option Value} {t : mL} (he : ft m pc = some (2, v, 0, b, c, n, ts)) (ht : tyo b x = true)  (k : Wp (d, m, n, (some x :: t), st, G) Q) : Wp (d, m, pc, (l0 :: t), (x :: st), G) Q := Wp.next (by
  simp only [act, he, acte]
  rw [if_pos ⟨ht, rfl, by simp⟩]
  rfl) k
theorem w_stw0 {x : Value} {l0 lx : Option Value} {t : mL} (he : ft m pc = some (3, v, 0, b, c, n, ts)) (ht : tyo b x = true)  (k : Wp (d, m, n, (some x :: none :: t), st, G) Q) : Wp (d, m, pc, (l0 :: lx :: t), (x :: st), G) Q := Wp.next (by
  simp only [act, he, acte]
  rw [if_pos ⟨ht, rfl, by simp⟩]
  rfl) k
theorem w_inc0 (y : Int) {z : Int} {t : mL} (he : ft m pc = some (27, v, 0, b, c, n, ts)) (hv : v = N y)  (k : Wp (d, m, n, (some (.int (N (z + y))) :: t), st, G) Q) : Wp (d, m, pc, (some (.int (N z)) :: t), st, G) Q := Wp.next (by
  have e : (some (Value.int (N z)) :: t)[0]? = some (some (Value.int (N z))) := rfl
  simp only [act, he, acte, e]
  rw [if_pos ⟨rfl, by simp⟩, hv, N_add]
  rfl) k
theorem w_st1 {x : Value} {l0 l1 : Option Value} {t : mL} (he : ft m pc = some (2, v, 1, b, c, n, ts)) (ht : tyo b x = true) (hp : isW l0 = false)  (k : Wp (d, m, n, (l0 :: some x :: t), st, G) Q) : Wp (d, m, pc, (l0 :: l1 :: t), (x :: st), G) Q := Wp.next (by
  simp only [act, he, acte]
  rw [if_pos ⟨ht, hp, by simp⟩]
  rfl) k
theorem w_stw1 {x : Value} {l0 l1 lx : Option Value} {t : mL} (he : ft m pc = some (3, v, 1, b, c, n, ts)) (ht : tyo b x = true) (hp : isW l0 = false)  (k : Wp (d, m, n, (l0 :: some x :: none :: t), st, G) Q) : Wp (d, m, pc, (l0 :: l1 :: lx :: t), (x :: st), G) Q := Wp.next (by
  simp only [act, he, acte]
  rw [if_pos ⟨ht, hp, by simp⟩]
  rfl) k
theorem w_inc1 (y : Int) {z : Int} {l0 : Option Value} {t : mL} (he : ft m pc = some (27, v, 1, b, c, n, ts)) (hv : v = N y) (hp : isW l0 = false)  (k : Wp (d, m, n, (l0 :: some (.int (N (z + y))) :: t), st, G) Q) : Wp (d, m, pc, (l0 :: some (.int (N z)) :: t), st, G) Q := Wp.next (by
  have e : (l0 :: some (Value.int (N z)) :: t)[1]? = some (some (Value.int (N z))) := rfl
  simp only [act, he, acte, e]
  rw [if_pos ⟨hp, by simp⟩, hv, N_add]
  rfl) k
theorem w_st2 {x : Value} {l0 l1 l2 : Option Value} {t : mL} (he : ft m pc = some (2, v, 2, b, c, n, ts)) (ht : tyo b x = true) (hp : isW l1 = false)  (k : Wp (d, m, n, (l0 :: l1 :: some x :: t), st, G) Q) : Wp (d, m, pc, (l0 :: l1 :: l2 :: t), (x :: st), G) Q := Wp.next (by
  simp only [act, he, acte]
  rw [if_pos ⟨ht, hp, by simp⟩]
  rfl) k
theorem w_stw2 {x : Value} {l0 l1 l2 lx : Option Value} {t : mL} (he : ft m pc = some (3, v, 2, b, c, n, ts)) (ht : tyo b x = true) (hp : isW l1 = false)  (k : Wp (d, m, n, (l0 :: l1 :: some x :: none :: t), st, G) Q) : Wp (d, m, pc, (l0 :: l1 :: l2 :: lx :: t), (x :: st), G) Q := Wp.next (by
  simp only [act, he, acte]
  rw [if_pos ⟨ht, hp, by simp⟩]
  rfl) k
theorem w_inc2 (y : Int) {z : Int} {l0 l1 : Option Value} {t : mL} (he : ft m pc = some (27, v, 2, b, c, n, ts)) (hv : v = N y) (hp : isW l1 = false)  (k : Wp (d, m, n, (l0 :: l1 :: some (.int (N (z + y))) :: t), st, G) Q) : Wp (d, m, pc, (l0 :: l1 :: some (.int (N z)) :: t), st, G) Q := Wp.next (by
  have e : (l0 :: l1 :: some (Value.int (N z)) :: t)[2]? = some (some (Value.int (N z))) := rfl
  simp only [act, he, acte, e]
  rw [if_pos ⟨hp, by simp⟩, hv, N_add]
  rfl) k
theorem w_st3 {x : Value} {l0 l1 l2 l3 : Option Value} {t : mL} (he : ft m pc = some (2, v, 3, b, c, n, ts)) (ht : tyo b x = true) (hp : isW l2 = false)  (k : Wp (d, m, n, (l0 :: l1 :: l2 :: some x :: t), st, G) Q) : Wp (d, m, pc, (l0 :: l1 :: l2 :: l3 :: t), (x :: st), G) Q := Wp.next (by
  simp only [act, he, acte]
  rw [if_pos ⟨ht, hp, by simp⟩]
  rfl) k
theorem w_stw3 {x : Value} {l0 l1 l2 l3 lx : Option Value} {t : mL} (he : ft m pc = some (3, v, 3, b, c, n, ts)) (ht : tyo b x = true) (hp : isW l2 = false)  (k : Wp (d, m, n, (l0 :: l1 :: l2 :: some x :: none :: t), st, G) Q) : Wp (d, m, pc, (l0 :: l1 :: l2 :: l3 :: lx :: t), (x :: st), G) Q := Wp.next (by
  simp only [act, he, acte]
  rw [if_pos ⟨ht, hp, by simp⟩]
  rfl) k
theorem w_inc3 (y : Int) {z : Int} {l0 l1 l2 : Option Value} {t : mL} (he : ft m pc = some (27, v, 3, b, c, n, ts)) (hv : v = N y) (hp : isW l2 = false)  (k : Wp (d, m, n, (l0 :: l1 :: l2 :: some (.int (N (z + y))) :: t), st, G) Q) : Wp (d, m, pc, (l0 :: l1 :: l2 :: some (.int (N z)) :: t), st, G) Q := Wp.next (by
  have e : (l0 :: l1 :: l2 :: some (Value.int (N z)) :: t)[3]? = some (some (Value.int (N z))) := rfl
  simp only [act, he, acte, e]
  rw [if_pos ⟨hp, by simp⟩, hv, N_add]
  rfl) k
theorem w_st4 {x : Value} {l0 l1 l2 l3 l4 : Option Value} {t : mL} (he : ft m pc = some (2, v, 4, b, c, n, ts)) (ht : tyo b x = true) (hp : isW l3 = false)  (k : Wp (d, m, n, (l0 :: l1 :: l2 :: l3 :: some x :: t), st, G) Q) : Wp (d, m, pc, (l0 :: l1 :: l2 :: l3 :: l4 :: t), (x :: st), G) Q := Wp.next (by
  simp only [act, he, acte]
  rw [if_pos ⟨ht, hp, by simp⟩]
  rfl) k
theorem w_stw4 {x : Value} {l0 l1 l2 l3 l4 lx : Option Value} {t : mL} (he : ft m pc = some (3, v, 4, b, c, n, ts)) (ht : tyo b x = true) (hp : isW l3 = false)  (k : Wp (d, m, n, (l0 :: l1 :: l2 :: l3 :: some x :: none :: t), st, G) Q) : Wp (d, m, pc, (l0 :: l1 :: l2 :: l3 :: l4 :: lx :: t), (x :: st), G) Q := Wp.next (by
  simp only [act, he, acte]
  rw [if_pos ⟨ht, hp, by simp⟩]
  rfl) k
theorem w_inc4 (y : Int) {z : Int} {l0 l1 l2 l3 : Option Value} {t : mL} (he : ft m pc = some (27, v, 4, b, c, n, ts)) (hv : v = N y) (hp : isW l3 = false)  (k : Wp (d, m, n, (l0 :: l1 :: l2 :: l3 :: some (.int (N (z + y))) :: t), st, G) Q) : Wp (d, m, pc, (l0 :: l1 :: l2 :: l3 :: some (.int (N z)) :: t), st, G) Q := Wp.next (by
  have e : (l0 :: l1 :: l2 :: l3 :: some (Value.int (N z)) :: t)[4]? = some (some (Value.int (N z))) := rfl
  simp only [act, he, acte, e]
  rw [if_pos ⟨hp, by simp⟩, hv, N_add]
  rfl) k
theorem w_st5 {x : Value} {l0 l1 l2 l3 l4 l5 : Option Value} {t : mL} (he : ft m pc = some (2, v, 5, b, c, n, ts)) (ht : tyo b x = true) (hp : isW l4 = false)  (k : Wp (d, m, n, (l0 :: l1 :: l2 :: l3 :: l4 :: some x :: t), st, G) Q) : Wp (d, m, pc, (l0 :: l1 :: l2 :: l3 :: l4 :: l5 :: t), (x :: st), G) Q := Wp.next (by
  simp only [act, he, acte]
  rw [if_pos ⟨ht, hp, by simp⟩]
  rfl) k
theorem w_stw5 {x : Value} {l0 l1 l2 l3 l4 l5 lx : Option Value} {t : mL} (he : ft m pc = some (3, v, 5, b, c, n, ts)) (ht : tyo b x = true) (hp : isW l4 = false)  (k : Wp (d, m, n, (l0 :: l1 :: l2 :: l3 :: l4 :: some x :: none :: t), st, G) Q) : Wp (d, m, pc, (l0 :: l1 :: l2 :: l3 :: l4 :: l5 :: lx :: t), (x :: st), G) Q := Wp.next (by
  simp only [act, he, acte]
  rw [if_pos ⟨ht, hp, by simp⟩]
  rfl) k
theorem w_inc5 (y : Int) {z : Int} {l0 l1 l2 l3 l4 : Option Value} {t : mL} (he : ft m pc = some (27, v, 5, b, c, n, ts)) (hv : v = N y) (hp : isW l4 = false)  (k : Wp (d, m, n, (l0 :: l1 :: l2 :: l3 :: l4 :: some (.int (N (z + y))) :: t), st, G) Q) : Wp (d, m, pc, (l0 :: l1 :: l2 :: l3 :: l4 :: some (.int (N z)) :: t), st, G) Q := Wp.next (by
  have e : (l0 :: l1 :: l2 :: l3 :: l4 :: some (Value.int (N z)) :: t)[5]? = some (some (Value.int (N z))) := rfl
  simp only [act, he, acte, e]
  rw [if_pos ⟨hp, by simp⟩, hv, N_add]
  rfl) k
theorem w_st6 {x : Value} {l0 l1 l2 l3 l4 l5 l6 : Option Value} {t : mL} (he : ft m pc = some (2, v, 6, b, c, n, ts)) (ht : tyo b x = true) (hp : isW l5 = false)  (k : Wp (d, m, n, (l0 :: l1 :: l2 :: l3 :: l4 :: l5 :: some x :: t), st, G) Q) : Wp (d, m, pc, (l0 :: l1 :: l2 :: l3 :: l4 :: l5 :: l6 :: t), (x :: st), G) Q := Wp.next (by
  simp only [act, he, acte]
  rw [if_pos ⟨ht, hp, by simp⟩]
  rfl) k
theorem w_stw6 {x : Value} {l0 l1 l2 l3 l4 l5 l6 lx : Option Value} {t : mL} (he : ft m pc = some (3, v, 6, b, c, n, ts)) (ht : tyo b x = true) (hp : isW l5 = false)  (k : Wp (d, m, n, (l0 :: l1 :: l2 :: l3 :: l4 :: l5 :: some x :: none :: t), st, G) Q) : Wp (d, m, pc, (l0 :: l1 :: l2 :: l3 :: l4 :: l5 :: l6 :: lx :: t), (x :: st), G) Q := Wp.next (by
  simp only [act, he, acte]
  rw [if_pos ⟨ht, hp, by simp⟩]
  rfl) k
theorem w_inc6 (y : Int) {z : Int} {l0 l1 l2 l3 l4 l5 : Option Value} {t : mL} (he : ft m pc = some (27, v, 6, b, c, n, ts)) (hv : v = N y) (hp : isW l5 = false)  (k : Wp (d, m, n, (l0 :: l1 :: l2 :: l3 :: l4 :: l5 :: some (.int (N (z + y))) :: t), st, G) Q) : Wp (d, m, pc, (l0 :: l1 :: l2 :: l3 :: l4 :: l5 :: some (.int (N z)) :: t), st, G) Q := Wp.next (by
  have e : (l0 :: l1 :: l2 :: l3 :: l4 :: l5 :: some (Value.int (N z)) :: t)[6]? = some (some (Value.int (N z))) := rfl
  simp only [act, he, acte, e]
  rw [if_pos ⟨hp, by simp⟩, hv, N_add]
  rfl) k
theorem w_st7 {x : Value} {l0 l1 l2 l3 l4 l5 l6 l7 : Option Value} {t : mL} (he : ft m pc = some (2, v, 7, b, c, n, ts)) (ht : tyo b x = true) (hp : isW l6 = false)  (k : Wp (d, m, n, (l0 :: l1 :: l2 :: l3 :: l4 :: l5 :: l6 :: some x :: t), st, G) Q) : Wp (d, m, pc, (l0 :: l1 :: l2 :: l3 :: l4 :: l5 :: l6 :: l7 :: t), (x :: st), G) Q := Wp.next (by
  simp only [act, he, acte]
  rw [if_pos ⟨ht, hp, by simp⟩]
  rfl) k
theorem w_stw7 {x : Value} {l0 l1 l2 l3 l4 l5 l6 l7 lx : Option Value} {t : mL} (he : ft m pc = some (3, v, 7, b, c, n, ts)) (ht : tyo b x = true) (hp : isW l6 = false)  (k : Wp (d, m, n, (l0 :: l1 :: l2 :: l3 :: l4 :: l5 :: l6 :: some x :: none :: t), st, G) Q) : Wp (d, m, pc, (l0 :: l1 :: l2 :: l3 :: l4 :: l5 :: l6 :: l7 :: lx :: t), (x :: st), G) Q := Wp.next (by
  simp only [act, he, acte]
  rw [if_pos ⟨ht, hp, by simp⟩]
  rfl) k
theorem w_inc7 (y : Int) {z : Int} {l0 l1 l2 l3 l4 l5 l6 : Option Value} {t : mL} (he : ft m pc = some (27, v, 7, b, c, n, ts)) (hv : v = N y) (hp : isW l6 = false)  (k : Wp (d, m, n, (l0 :: l1 :: l2 :: l3 :: l4 :: l5 :: l6 :: some (.int (N (z + y))) :: t), st, G) Q) : Wp (d, m, pc, (l0 :: l1 :: l2 :: l3 :: l4 :: l5 :: l6 :: some (.int (N z)) :: t), st, G) Q := Wp.next (by
  have e : (l0 :: l1 :: l2 :: l3 :: l4 :: l5 :: l6 :: some (Value.int (N z)) :: t)[7]? = some (some (Value.int (N z))) := rfl
  simp only [act, he, acte, e]
  rw [if_pos ⟨hp, by simp⟩, hv, N_add]
  rfl) k
theorem w_st8 {x : Value} {l0 l1 l2 l3 l4 l5 l6 l7 l8 : Option Value} {t : mL} (he : ft m pc = some (2, v, 8, b, c, n, ts)) (ht : tyo b x = true) (hp : isW l7 = false)  (k : Wp (d, m, n, (l0 :: l1 :: l2 :: l3 :: l4 :: l5 :: l6 :: l7 :: some x :: t), st, G) Q) : Wp (d, m, pc, (l0 :: l1 :: l2 :: l3 :: l4 :: l5 :: l6 :: l7 :: l8 :: t), (x :: st), G) Q := Wp.next (by
  simp only [act, he, acte]
  rw [if_pos ⟨ht, hp, by simp⟩]
  rfl) k
theorem w_stw8 {x : Value} {l0 l1 l2 l3 l4 l5 l6 l7 l8 lx : Option Value} {t : mL} (he : ft m pc = some (3, v, 8, b, c, n, ts)) (ht : tyo b x = true) (hp : isW l7 = false)  (k : Wp (d, m, n, (l0 :: l1 :: l2 :: l3 :: l4 :: l5 :: l6 :: l7 :: some x :: none :: t), st, G) Q) : Wp (d, m, pc, (l0 :: l1 :: l2 :: l3 :: l4 :: l5 :: l6 :: l7 :: l8 :: lx :: t), (x :: st), G) Q := Wp.next (by
  simp only [act, he, acte]
  rw [if_pos ⟨ht, hp, by simp⟩]
  rfl) k
theorem w_inc8 (y : Int) {z : Int} {l0 l1 l2 l3 l4 l5 l6 l7 : Option Value} {t : mL} (he : ft m pc = some (27, v, 8, b, c, n, ts)) (hv : v = N y) (hp : isW l7 = false)  (k : Wp (d, m, n, (l0 :: l1 :: l2 :: l3 :: l4 :: l5 :: l6 :: l7 :: some (.int (N (z + y))) :: t), st, G) Q) : Wp (d, m, pc, (l0 :: l1 :: l2 :: l3 :: l4 :: l5 :: l6 :: l7 :: some (.int (N z)) :: t), st, G) Q := Wp.next (by
  have e : (l0 :: l1 :: l2 :: l3 :: l4 :: l5 :: l6 :: l7 :: some (Value.int (N z)) :: t)[8]? = some (some (Value.int (N z))) := rfl
  simp only [act, he, acte, e]
  rw [if_pos ⟨hp, by simp⟩, hv, N_add]
  rfl) k
theorem w_st9 {x : Value} {l0 l1 l2 l3 l4 l5 l6 l7 l8 l9 : Option Value} {t : mL} (he : ft m pc = some (2, v, 9, b, c, n, ts)) (ht : tyo b x = true) (hp : isW l8 = false)  (k : Wp (d, m, n, (l0 :: l1 :: l2 :: l3 :: l4 :: l5 :: l6 :: l7 :: l8 :: some x :: t), st, G) Q) : Wp (d, m, pc, (l0 :: l1 :: l2 :: l3 :: l4 :: l5 :: l6 :: l7 :: l8 :: l9 :: t), (x :: st), G) Q := Wp.next (by
  simp only [act, he, acte]
  rw [if_pos ⟨ht, hp, by simp⟩]
  rfl) k
theorem w_stw9 {x : Value} {l0 l1 l2 l3 l4 l5 l6 l7 l8 l9 lx : Option Value} {t : mL} (he : ft m pc = some (3, v, 9, b, c, n, ts)) (ht : tyo b x = true) (hp : isW l8 = false)  (k : Wp (d, m, n, (l0 :: l1 :: l2 :: l3 :: l4 :: l5 :: l6 :: l7 :: l8 :: some x :: none :: t), st, G) Q) : Wp (d, m, pc, (l0 :: l1 :: l2 :: l3 :: l4 :: l5 :: l6 :: l7 :: l8 :: l9 :: lx :: t), (x :: st), G) Q := Wp.next (by
  simp only [act, he, acte]
  rw [if_pos ⟨ht, hp, by simp⟩]
  rfl) k
theorem w_inc9 (y : Int) {z : Int} {l0 l1 l2 l3 l4 l5 l6 l7 l8 : Option Value} {t : mL} (he : ft m pc = some (27, v, 9, b, c, n, ts)) (hv : v = N y) (hp : isW l8 = false)  (k : Wp (d, m, n, (l0 :: l1 :: l2 :: l3 :: l4 :: l5 :: l6 :: l7 :: l8 :: some (.int (N (z + y))) :: t), st, G) Q) : Wp (d, m, pc, (l0 :: l1 :: l2 :: l3 :: l4 :: l5 :: l6 :: l7 :: l8 :: some (.int (N z)) :: t), st, G) Q := Wp.next (by
  have e : (l0 :: l1 :: l2 :: l3 :: l4 :: l5 :: l6 :: l7 :: l8 :: some (Value.int (N z)) :: t)[9]? = some (some (Value.int (N z))) := rfl
  simp only [act, he, acte, e]
  rw [if_pos ⟨hp, by simp⟩, hv, N_add]
  rfl) k
theorem w_st10 {x : Value} {l0 l1 l2 l3 l4 l5 l6 l7 l8 l9 l10 : Option Value} {t : mL} (he : ft m pc = some (2, v, 10, b, c, n, ts)) (ht : tyo b x = true) (hp : isW l9 = false)  (k : Wp (d, m, n, (l0 :: l1 :: l2 :: l3 :: l4 :: l5 :: l6 :: l7 :: l8 :: l9 :: some x :: t), st, G) Q) : Wp (d, m, pc, (l0 :: l1 :: l2 :: l3 :: l4 :: l5 :: l6 :: l7 :: l8 :: l9 :: l10 :: t), (x :: st), G) Q := Wp.next (by
  simp only [act, he, acte]
  rw [if_pos ⟨ht, hp, by simp⟩]
  rfl) k
theorem w_stw10 {x : Value} {l0 l1 l2 l3 l4 l5 l6 l7 l8 l9 l10 lx : Option Value} {t : mL} (he : ft m pc = some (3, v, 10, b, c, n, ts)) (ht : tyo b x = true) (hp : isW l9 = false)  (k : Wp (d, m, n, (l0 :: l1 :: l2 :: l3 :: l4 :: l5 :: l6 :: l7 :: l8 :: l9 :: some x :: none :: t), st, G) Q) : Wp (d, m, pc, (l0 :: l1 :: l2 :: l3 :: l4 :: l5 :: l6 :: l7 :: l8 :: l9 :: l10 :: lx :: t), (x :: st), G) Q := Wp.next (by
  simp only [act, he, acte]
  rw [if_pos ⟨ht, hp, by simp⟩]
  rfl) k
theorem w_inc10 (y : Int) {z : Int} {l0 l1 l2 l3 l4 l5 l6 l7 l8 l9 : Option Value} {t : mL} (he : ft m pc = some (27, v, 10, b, c, n, ts)) (hv : v = N y) (hp : isW l9 = false)  (k : Wp (d, m, n, (l0 :: l1 :: l2 :: l3 :: l4 :: l5 :: l6 :: l7 :: l8 :: l9 :: some (.int (N (z + y))) :: t), st, G) Q) : Wp (d, m, pc, (l0 :: l1 :: l2 :: l3 :: l4 :: l5 :: l6 :: l7 :: l8 :: l9 :: some (.int (N z)) :: t), st, G) Q := Wp.next (by
  have e : (l0 :: l1 :: l2 :: l3 :: l4 :: l5 :: l6 :: l7 :: l8 :: l9 :: some (Value.int (N z)) :: t)[10]? = some (some (Value.int (N z))) := rfl
  simp only [act, he, acte, e]
  rw [if_pos ⟨hp, by simp⟩, hv, N_add]
  rfl) k
theorem w_st11 {x : Value} {l0 l1 l2 l3 l4 l5 l6 l7 l8 l9 l10 l11 : Option Value} {t : mL} (he : ft m pc = some (2, v, 11, b, c, n, ts)) (ht : tyo b x = true) (hp : isW l10 = false)  (k : Wp (d, m, n, (l0 :: l1 :: l2 :: l3 :: l4 :: l5 :: l6 :: l7 :: l8 :: l9 :: l10 :: some x :: t), st, G) Q) : Wp (d, m, pc, (l0 :: l1 :: l2 :: l3 :: l4 :: l5 :: l6 :: l7 :: l8 :: l9 :: l10 :: l11 :: t), (x :: st), G) Q := Wp.next (by
  simp only [act, he, acte]
  rw [if_pos ⟨ht, hp, by simp⟩]
  rfl) k
theorem w_stw11 {x : Value} {l0 l1 l2 l3 l4 l5 l6 l7 l8 l9 l10 l11 lx : Option Value} {t : mL} (he : ft m pc = some (3, v, 11, b, c, n, ts)) (ht : tyo b x = true) (hp : isW l10 = false)  (k : Wp (d, m, n, (l0 :: l1 :: l2 :: l3 :: l4 :: l5 :: l6 :: l7 :: l8 :: l9 :: l10 :: some x :: none :: t), st, G) Q) : Wp (d, m, pc, (l0 :: l1 :: l2 :: l3 :: l4 :: l5 :: l6 :: l7 :: l8 :: l9 :: l10 :: l11 :: lx :: t), (x :: st), G) Q := Wp.next (by
  simp only [act, he, acte]
  rw [if_pos ⟨ht, hp, by simp⟩]
  rfl) k
theorem w_inc11 (y : Int) {z : Int} {l0 l1 l2 l3 l4 l5 l6 l7 l8 l9 l10 : Option Value} {t : mL} (he : ft m pc = some (27, v, 11, b, c, n, ts)) (hv : v = N y) (hp : isW l10 = false)  (k : Wp (d, m, n, (l0 :: l1 :: l2 :: l3 :: l4 :: l5 :: l6 :: l7 :: l8 :: l9 :: l10 :: some (.int (N (z + y))) :: t), st, G) Q) : Wp (d, m, pc, (l0 :: l1 :: l2 :: l3 :: l4 :: l5 :: l6 :: l7 :: l8 :: l9 :: l10 :: some (.int (N z)) :: t), st, G) Q := Wp.next (by
  have e : (l0 :: l1 :: l2 :: l3 :: l4 :: l5 :: l6 :: l7 :: l8 :: l9 :: l10 :: some (Value.int (N z)) :: t)[11]? = some (some (Value.int (N z))) := rfl
  simp only [act, he, acte, e]
  rw [if_pos ⟨hp, by simp⟩, hv, N_add]
  rfl) k
theorem w_st12 {x : Value} {l0 l1 l2 l3 l4 l5 l6 l7 l8 l9 l10 l11 l12 : Option Value} {t : mL} (he : ft m pc = some (2, v, 12, b, c, n, ts)) (ht : tyo b x = true) (hp : isW l11 = false)  (k : Wp (d, m, n, (l0 :: l1 :: l2 :: l3 :: l4 :: l5 :: l6 :: l7 :: l8 :: l9 :: l10 :: l11 :: some x :: t), st, G) Q) : Wp (d, m, pc, (l0 :: l1 :: l2 :: l3 :: l4 :: l5 :: l6 :: l7 :: l8 :: l9 :: l10 :: l11 :: l12 :: t), (x :: st), G) Q := Wp.next (by
  simp only [act, he, acte]
  rw [if_pos ⟨ht, hp, by simp⟩]
  rfl) k
theorem w_stw12 {x : Value} {l0 l1 l2 l3 l4 l5 l6 l7 l8 l9 l10 l11 l12 lx : Option Value} {t : mL} (he : ft m pc = some (3, v, 12, b, c, n, ts)) (ht : tyo b x = true) (hp : isW l11 = false)  (k : Wp (d, m, n, (l0 :: l1 :: l2 :: l3 :: l4 :: l5 :: l6 :: l7 :: l8 :: l9 :: l10 :: l11 :: some x :: none :: t), st, G) Q) : Wp (d, m, pc, (l0 :: l1 :: l2 :: l3 :: l4 :: l5 :: l6 :: l7 :: l8 :: l9 :: l10 :: l11 :: l12 :: lx :: t), (x :: st), G) Q := Wp.next (by
  simp only [act, he, acte]
  rw [if_pos ⟨ht, hp, by simp⟩]
  rfl) k
theorem w_inc12 (y : Int) {z : Int} {l0 l1 l2 l3 l4 l5 l6 l7 l8 l9 l10 l11 : Option Value} {t : mL} (he : ft m pc = some (27, v, 12, b, c, n, ts)) (hv : v = N y) (hp : isW l11 = false)  (k : Wp (d, m, n, (l0 :: l1 :: l2 :: l3 :: l4 :: l5 :: l6 :: l7 :: l8 :: l9 :: l10 :: l11 :: some (.int (N (z + y))) :: t), st, G) Q) : Wp (d, m, pc, (l0 :: l1 :: l2 :: l3 :: l4 :: l5 :: l6 :: l7 :: l8 :: l9 :: l10 :: l11 :: some (.int (N z)) :: t), st, G) Q := Wp.next (by
  have e : (l0 :: l1 :: l2 :: l3 :: l4 :: l5 :: l6 :: l7 :: l8 :: l9 :: l10 :: l11 :: some (Value.int (N z)) :: t)[12]? = some (some (Value.int (N z))) := rfl
  simp only [act, he, acte, e]
  rw [if_pos ⟨hp, by simp⟩, hv, N_add]
  rfl) k
theorem w_st13 {x : Value} {l0 l1 l2 l3 l4 l5 l6 l7 l8 l9 l10 l11 l12 l13 : Option Value} {t : mL} (he : ft m pc = some (2, v, 13, b, c, n, ts)) (ht : tyo b x = true) (hp : isW l12 = false)  (k : Wp (d, m, n, (l0 :: l1 :: l2 :: l3 :: l4 :: l5 :: l6 :: l7 :: l8 :: l9 :: l10 :: l11 :: l12 :: some x :: t), st, G) Q) : Wp (d, m, pc, (l0 :: l1 :: l2 :: l3 :: l4 :: l5 :: l6 :: l7 :: l8 :: l9 :: l10 :: l11 :: l12 :: l13 :: t), (x :: st), G) Q := Wp.next (by
  simp only [act, he, acte]
  rw [if_pos ⟨ht, hp, by simp⟩]
  rfl) k
theorem w_stw13 {x : Value} {l0 l1 l2 l3 l4 l5 l6 l7 l8 l9 l10 l11 l12 l13 lx : Option Value} {t : mL} (he : ft m pc = some (3, v, 13, b, c, n, ts)) (ht : tyo b x = true) (hp : isW l12 = false)  (k : Wp (d, m, n, (l0 :: l1 :: l2 :: l3 :: l4 :: l5 :: l6 :: l7 :: l8 :: l9 :: l10 :: l11 :: l12 :: some x :: none :: t), st, G) Q) : Wp (d, m, pc, (l0 :: l1 :: l2 :: l3 :: l4 :: l5 :: l6 :: l7 :: l8 :: l9 :: l10 :: l11 :: l12 :: l13 :: lx :: t), (x :: st), G) Q := Wp.next (by
  simp only [act, he, acte]
  rw [if_pos ⟨ht, hp, by simp⟩]
  rfl) k
theorem w_inc13 (y : Int) {z : Int} {l0 l1 l2 l3 l4 l5 l6 l7 l8 l9 l10 l11 l12 : Option Value} {t : mL} (he : ft m pc = some (27, v, 13, b, c, n, ts)) (hv : v = N y) (hp : isW l12 = false)  (k : Wp (d, m, n, (l0 :: l1 :: l2 :: l3 :: l4 :: l5 :: l6 :: l7 :: l8 :: l9 :: l10 :: l11 :: l12 :: some (.int (N (z + y))) :: t), st, G) Q) : Wp (d, m, pc, (l0 :: l1 :: l2 :: l3 :: l4 :: l5 :: l6 :: l7 :: l8 :: l9 :: l10 :: l11 :: l12 :: some (.int (N z)) :: t), st, G) Q := Wp.next (by
  have e : (l0 :: l1 :: l2 :: l3 :: l4 :: l5 :: l6 :: l7 :: l8 :: l9 :: l10 :: l11 :: l12 :: some (Value.int (N z)) :: t)[13]? = some (some (Value.int (N z))) := rfl
  simp only [act, he, acte, e]
  rw [if_pos ⟨hp, by simp⟩, hv, N_add]
  rfl) k
theorem w_const (z : Int) (he : ft m pc = some (4, v, a, b, c, n, ts)) (hv : v = N z) (k : Wp (d, m, n, L, (.int (N z) :: st), G) Q) : Wp (d, m, pc, L, st, G) Q := Wp.next (by simp only [act, he, acte, jmp, hv]) k
theorem w_lconst (z : Int) (he : ft m pc = some (5, v, a, b, c, n, ts)) (hz : Int64.ofNat a = J z) (k : Wp (d, m, n, L, (.long (J z) :: st), G) Q) : Wp (d, m, pc, L, st, G) Q := Wp.next (by simp only [act, he, acte, jmp, hz]) k
theorem w_dconst (he : ft m pc = some (6, v, a, b, c, n, ts)) (k : Wp (d, m, n, L, (.double (UInt64.ofNat a) :: st), G) Q) : Wp (d, m, pc, L, st, G) Q := Wp.next (by simp only [act, he, acte, jmp]) k
theorem w_null (he : ft m pc = some (7, v, a, b, c, n, ts)) (k : Wp (d, m, n, L, (.null :: st), G) Q) : Wp (d, m, pc, L, st, G) Q := Wp.next (by simp only [act, he, acte, jmp]) k
theorem w_refc (he : ft m pc = some (8, v, a, b, c, n, ts)) (k : Wp (d, m, n, L, (.ref a :: st), G) Q) : Wp (d, m, pc, L, st, G) Q := Wp.next (by simp only [act, he, acte, jmp]) k
theorem w_iadd {x y : Int} (he : ft m pc = some (9, v, 0, b, c, n, ts)) (k : Wp (d, m, n, L, (.int (N (x + y)) :: st), G) Q) : Wp (d, m, pc, L, (.int (N y) :: .int (N x) :: st), G) Q := Wp.next (by simp only [act, he, acte, jmp, ibin, N_add, N_sub, N_mul]) k
theorem w_isub {x y : Int} (he : ft m pc = some (9, v, 1, b, c, n, ts)) (k : Wp (d, m, n, L, (.int (N (x - y)) :: st), G) Q) : Wp (d, m, pc, L, (.int (N y) :: .int (N x) :: st), G) Q := Wp.next (by simp only [act, he, acte, jmp, ibin, N_add, N_sub, N_mul]) k
theorem w_imul {x y : Int} (he : ft m pc = some (9, v, 2, b, c, n, ts)) (k : Wp (d, m, n, L, (.int (N (x * y)) :: st), G) Q) : Wp (d, m, pc, L, (.int (N y) :: .int (N x) :: st), G) Q := Wp.next (by simp only [act, he, acte, jmp, ibin, N_add, N_sub, N_mul]) k
theorem w_iand {x y : Int32} (he : ft m pc = some (9, v, 3, b, c, n, ts)) (k : Wp (d, m, n, L, (.int (N (x &&& y).toInt) :: st), G) Q) : Wp (d, m, pc, L, (.int y :: .int x :: st), G) Q := Wp.next (by simp only [act, he, acte, jmp, ibin, N_toInt]) k
theorem w_ishr {x y : Int32} (he : ft m pc = some (9, v, 4, b, c, n, ts)) (k : Wp (d, m, n, L, (.int (N (x >>> (y &&& 31)).toInt) :: st), G) Q) : Wp (d, m, pc, L, (.int y :: .int x :: st), G) Q := Wp.next (by simp only [act, he, acte, jmp, ibin, N_toInt]) k
theorem w_ineg {x : Int} (he : ft m pc = some (10, v, 0, b, c, n, ts)) (k : Wp (d, m, n, L, (.int (N (-x)) :: st), G) Q) : Wp (d, m, pc, L, (.int (N x) :: st), G) Q := Wp.next (by simp only [act, he, acte, jmp, N_neg, if_true]) k
theorem w_i2c {x : Int} (he : ft m pc = some (10, v, 1, b, c, n, ts)) (hc : 0 ≤ x ∧ x < 65536) (k : Wp (d, m, n, L, (.int (N x) :: st), G) Q) : Wp (d, m, pc, L, (.int (N x) :: st), G) Q := Wp.next (by
  have e : chr (N x) = true := by
    have e : (N x).toInt = x := wr_id (by omega) (by omega)
    unfold chr; rw [e]; simp; omega
  simp only [act, he, acte, jmp, e, if_true, Nat.one_ne_zero, if_false]) k
theorem w_idiv {x y : Int} (he : ft m pc = some (11, v, 0, b, c, n, ts)) (hy : ¬ wr y = 0) (k : Wp (d, m, n, L, (.int (N (Int.tdiv (wr x) (wr y))) :: st), G) Q) : Wp (d, m, pc, L, (.int (N y) :: .int (N x) :: st), G) Q := Wp.next (by
  have e : ¬ N y = 0 := by rw [N0, N_eq]; rw [show wr 0 = 0 from rfl]; exact hy
  simp only [act, he, acte, jmp, if_neg e, if_true]
  rw [N_div]) k
theorem w_irem {x y : Int} (he : ft m pc = some (11, v, 1, b, c, n, ts)) (hy : ¬ wr y = 0) (k : Wp (d, m, n, L, (.int (N (wr x - Int.tdiv (wr x) (wr y) * wr y)) :: st), G) Q) : Wp (d, m, pc, L, (.int (N y) :: .int (N x) :: st), G) Q := Wp.next (by
  have e : ¬ N y = 0 := by rw [N0, N_eq]; rw [show wr 0 = 0 from rfl]; exact hy
  simp only [act, he, acte, jmp, if_neg e, Nat.one_ne_zero, if_false]
  rw [N_div, ← N_sub, ← N_mul, N_wr, N_wr]) k
theorem w_ladd {x y : Int} (he : ft m pc = some (12, v, 0, b, c, n, ts)) (k : Wp (d, m, n, L, (.long (J (x + y)) :: st), G) Q) : Wp (d, m, pc, L, (.long (J y) :: .long (J x) :: st), G) Q := Wp.next (by simp only [act, he, acte, jmp, lbin, J_add, J_sub, J_mul]) k
theorem w_lsub {x y : Int} (he : ft m pc = some (12, v, 1, b, c, n, ts)) (k : Wp (d, m, n, L, (.long (J (x - y)) :: st), G) Q) : Wp (d, m, pc, L, (.long (J y) :: .long (J x) :: st), G) Q := Wp.next (by simp only [act, he, acte, jmp, lbin, J_add, J_sub, J_mul]) k
theorem w_lmul {x y : Int} (he : ft m pc = some (12, v, 2, b, c, n, ts)) (k : Wp (d, m, n, L, (.long (J (x * y)) :: st), G) Q) : Wp (d, m, pc, L, (.long (J y) :: .long (J x) :: st), G) Q := Wp.next (by simp only [act, he, acte, jmp, lbin, J_add, J_sub, J_mul]) k
theorem w_land {x y : Int64} (he : ft m pc = some (12, v, 3, b, c, n, ts)) (k : Wp (d, m, n, L, (.long (x &&& y) :: st), G) Q) : Wp (d, m, pc, L, (.long y :: .long x :: st), G) Q := Wp.next (by simp only [act, he, acte, jmp, lbin]) k
theorem w_lor {x y : Int64} (he : ft m pc = some (12, v, 4, b, c, n, ts)) (k : Wp (d, m, n, L, (.long (x ||| y) :: st), G) Q) : Wp (d, m, pc, L, (.long y :: .long x :: st), G) Q := Wp.next (by simp only [act, he, acte, jmp, lbin]) k
theorem w_ldiv {x y : Int} (he : ft m pc = some (13, v, 0, b, c, n, ts)) (hy : ¬ wrJ y = 0) (k : Wp (d, m, n, L, (.long (J (Int.tdiv (wrJ x) (wrJ y))) :: st), G) Q) : Wp (d, m, pc, L, (.long (J y) :: .long (J x) :: st), G) Q := Wp.next (by
  have e : ¬ J y = 0 := by rw [J0, J_eq]; rw [show wrJ 0 = 0 from rfl]; exact hy
  simp only [act, he, acte, jmp, if_neg e, if_true]
  rw [J_div]) k
theorem w_lrem {x y : Int} (he : ft m pc = some (13, v, 1, b, c, n, ts)) (hy : ¬ wrJ y = 0) (k : Wp (d, m, n, L, (.long (J (wrJ x - Int.tdiv (wrJ x) (wrJ y) * wrJ y)) :: st), G) Q) : Wp (d, m, pc, L, (.long (J y) :: .long (J x) :: st), G) Q := Wp.next (by
  have e : ¬ J y = 0 := by rw [J0, J_eq]; rw [show wrJ 0 = 0 from rfl]; exact hy
  simp only [act, he, acte, jmp, if_neg e, Nat.one_ne_zero, if_false]
  rw [J_div, ← J_sub, ← J_mul, J_wrJ, J_wrJ]) k
theorem w_lneg {x : Int} (he : ft m pc = some (14, v, a, b, c, n, ts)) (k : Wp (d, m, n, L, (.long (J (-x)) :: st), G) Q) : Wp (d, m, pc, L, (.long (J x) :: st), G) Q := Wp.next (by simp only [act, he, acte, jmp, J_neg]) k
theorem w_lshl {x : Int64} {y : Int32} (he : ft m pc = some (15, v, 0, b, c, n, ts)) (k : Wp (d, m, n, L, (.long (x <<< (y.toInt64 &&& 63)) :: st), G) Q) : Wp (d, m, pc, L, (.int y :: .long x :: st), G) Q := Wp.next (by simp only [act, he, acte, jmp, if_true]) k
theorem w_lshr {x : Int64} {y : Int32} (he : ft m pc = some (15, v, 1, b, c, n, ts)) (k : Wp (d, m, n, L, (.long (x >>> (y.toInt64 &&& 63)) :: st), G) Q) : Wp (d, m, pc, L, (.int y :: .long x :: st), G) Q := Wp.next (by simp only [act, he, acte, jmp, Nat.one_ne_zero, if_false]) k
theorem w_i2l {x : Int} (he : ft m pc = some (17, v, 0, b, c, n, ts)) (k : Wp (d, m, n, L, (.long (J (wr x)) :: st), G) Q) : Wp (d, m, pc, L, (.int (N x) :: st), G) Q := Wp.next (by simp only [act, he, acte, jmp, N_long]) k
theorem w_l2i {x : Int} (he : ft m pc = some (17, v, 1, b, c, n, ts)) (k : Wp (d, m, n, L, (.int (N x) :: st), G) Q) : Wp (d, m, pc, L, (.long (J x) :: st), G) Q := Wp.next (by simp only [act, he, acte, jmp, J_int]) k
theorem w_l2ir {x : Int64} (he : ft m pc = some (17, v, 1, b, c, n, ts)) (k : Wp (d, m, n, L, (.int (N x.toInt32.toInt) :: st), G) Q) : Wp (d, m, pc, L, (.long x :: st), G) Q := Wp.next (by simp only [act, he, acte, jmp, N_toInt]) k
theorem w_i2d {x : Int} (he : ft m pc = some (17, v, 2, b, c, n, ts)) (k : Wp (d, m, n, L, (.double (FP.i2d (N x)) :: st), G) Q) : Wp (d, m, pc, L, (.int (N x) :: st), G) Q := Wp.next (by simp only [act, he, acte, jmp]) k
theorem w_d2i {x : UInt64} (he : ft m pc = some (17, v, 3, b, c, n, ts)) (k : Wp (d, m, n, L, (.int (N (FP.d2i x).toInt) :: st), G) Q) : Wp (d, m, pc, L, (.double x :: st), G) Q := Wp.next (by simp only [act, he, acte, jmp, N_toInt]) k
theorem w_l2d {x : Int64} (he : ft m pc = some (17, v, 4, b, c, n, ts)) (k : Wp (d, m, n, L, (.double (FP.l2d x) :: st), G) Q) : Wp (d, m, pc, L, (.long x :: st), G) Q := Wp.next (by simp only [act, he, acte, jmp]) k
theorem w_dbin {x y : UInt64} (he : ft m pc = some (18, v, a, b, c, n, ts)) (hn : nonan (dbin a x y) = true) (k : Wp (d, m, n, L, (.double (dbin a x y) :: st), G) Q) : Wp (d, m, pc, L, (.double y :: .double x :: st), G) Q := Wp.next (by simp only [act, he, acte, jmp, hn, if_true]) k
theorem w_dneg {x : UInt64} (he : ft m pc = some (19, v, a, b, c, n, ts)) (k : Wp (d, m, n, L, (.double (FP.dneg x) :: st), G) Q) : Wp (d, m, pc, L, (.double x :: st), G) Q := Wp.next (by simp only [act, he, acte, jmp]) k
theorem w_dcmp {x y : UInt64} (he : ft m pc = some (20, v, a, b, c, n, ts)) (k : Wp (d, m, n, L, (.int (N (Op.cmpValue (FP.dcmp x y) (if a = 0 then .l else .g)).toInt) :: st), G) Q) : Wp (d, m, pc, L, (.double y :: .double x :: st), G) Q := Wp.next (by simp only [act, he, acte, jmp, N_toInt]) k
theorem w_goto (he : ft m pc = some (21, v, a, b, c, n, ts)) (k : Wp (d, m, a, L, st, G) Q) : Wp (d, m, pc, L, st, G) Q := Wp.next (by simp only [act, he, acte, jmp]) k
theorem w_if_eq {x : Int} (he : ft m pc = some (22, v, a, 0, c, n, ts)) (k1 : wr x = (0 : Int) → Wp (d, m, a, L, st, G) Q) (k2 : ¬ wr x = (0 : Int) → Wp (d, m, n, L, st, G) Q) : Wp (d, m, pc, L, (.int (N x) :: st), G) Q := by
  have hz : wr 0 = 0 := rfl
  by_cases h : wr x = (0 : Int)
  · refine Wp.next ?_ (k1 h)
    have e : cnd 0 (N x) 0 = true := by
      simp only [cnd, decide_eq_true_eq, N0, N_lt, N_le, N_eq, hz]; omega
    simp only [act, he, acte, e, if_true, jmp]
  · refine Wp.next ?_ (k2 (by omega))
    have e : ¬ cnd 0 (N x) 0 = true := by
      simp only [cnd, decide_eq_true_eq, N0, N_lt, N_le, N_eq, hz]; omega
    simp only [act, he, acte, if_neg e, jmp]
theorem w_icmp_eq {x y : Int} (he : ft m pc = some (23, v, a, 0, c, n, ts)) (k1 : wr x = wr y → Wp (d, m, a, L, st, G) Q) (k2 : ¬ wr x = wr y → Wp (d, m, n, L, st, G) Q) : Wp (d, m, pc, L, (.int (N y) :: .int (N x) :: st), G) Q := by
  have hz : wr 0 = 0 := rfl
  by_cases h : wr x = wr y
  · refine Wp.next ?_ (k1 h)
    have e : cnd 0 (N x) (N y) = true := by
      simp only [cnd, decide_eq_true_eq, N0, N_lt, N_le, N_eq, hz]; omega
    simp only [act, he, acte, e, if_true, jmp]
  · refine Wp.next ?_ (k2 (by omega))
    have e : ¬ cnd 0 (N x) (N y) = true := by
      simp only [cnd, decide_eq_true_eq, N0, N_lt, N_le, N_eq, hz]; omega
    simp only [act, he, acte, if_neg e, jmp]
theorem w_if_ne {x : Int} (he : ft m pc = some (22, v, a, 1, c, n, ts)) (k1 : ¬ wr x = (0 : Int) → Wp (d, m, a, L, st, G) Q) (k2 : wr x = (0 : Int) → Wp (d, m, n, L, st, G) Q) : Wp (d, m, pc, L, (.int (N x) :: st), G) Q := by
  have hz : wr 0 = 0 := rfl
  by_cases h : ¬ wr x = (0 : Int)
  · refine Wp.next ?_ (k1 h)
    have e : cnd 1 (N x) 0 = true := by
      simp only [cnd, decide_eq_true_eq, N0, N_lt, N_le, N_eq, hz]; omega
    simp only [act, he, acte, e, if_true, jmp]
  · refine Wp.next ?_ (k2 (by omega))
    have e : ¬ cnd 1 (N x) 0 = true := by
      simp only [cnd, decide_eq_true_eq, N0, N_lt, N_le, N_eq, hz]; omega
    simp only [act, he, acte, if_neg e, jmp]
theorem w_icmp_ne {x y : Int} (he : ft m pc = some (23, v, a, 1, c, n, ts)) (k1 : ¬ wr x = wr y → Wp (d, m, a, L, st, G) Q) (k2 : wr x = wr y → Wp (d, m, n, L, st, G) Q) : Wp (d, m, pc, L, (.int (N y) :: .int (N x) :: st), G) Q := by
  have hz : wr 0 = 0 := rfl
  by_cases h : ¬ wr x = wr y
  · refine Wp.next ?_ (k1 h)
    have e : cnd 1 (N x) (N y) = true := by
      simp only [cnd, decide_eq_true_eq, N0, N_lt, N_le, N_eq, hz]; omega
    simp only [act, he, acte, e, if_true, jmp]
  · refine Wp.next ?_ (k2 (by omega))
    have e : ¬ cnd 1 (N x) (N y) = true := by
      simp only [cnd, decide_eq_true_eq, N0, N_lt, N_le, N_eq, hz]; omega
    simp only [act, he, acte, if_neg e, jmp]
theorem w_if_lt {x : Int} (he : ft m pc = some (22, v, a, 2, c, n, ts)) (k1 : wr x < (0 : Int) → Wp (d, m, a, L, st, G) Q) (k2 : wr x ≥ (0 : Int) → Wp (d, m, n, L, st, G) Q) : Wp (d, m, pc, L, (.int (N x) :: st), G) Q := by
  have hz : wr 0 = 0 := rfl
  by_cases h : wr x < (0 : Int)
  · refine Wp.next ?_ (k1 h)
    have e : cnd 2 (N x) 0 = true := by
      simp only [cnd, decide_eq_true_eq, N0, N_lt, N_le, N_eq, hz]; omega
    simp only [act, he, acte, e, if_true, jmp]
  · refine Wp.next ?_ (k2 (by omega))
    have e : ¬ cnd 2 (N x) 0 = true := by
      simp only [cnd, decide_eq_true_eq, N0, N_lt, N_le, N_eq, hz]; omega
    simp only [act, he, acte, if_neg e, jmp]
theorem w_icmp_lt {x y : Int} (he : ft m pc = some (23, v, a, 2, c, n, ts)) (k1 : wr x < wr y → Wp (d, m, a, L, st, G) Q) (k2 : wr x ≥ wr y → Wp (d, m, n, L, st, G) Q) : Wp (d, m, pc, L, (.int (N y) :: .int (N x) :: st), G) Q := by
  have hz : wr 0 = 0 := rfl
  by_cases h : wr x < wr y
  · refine Wp.next ?_ (k1 h)
    have e : cnd 2 (N x) (N y) = true := by
      simp only [cnd, decide_eq_true_eq, N0, N_lt, N_le, N_eq, hz]; omega
    simp only [act, he, acte, e, if_true, jmp]
  · refine Wp.next ?_ (k2 (by omega))
    have e : ¬ cnd 2 (N x) (N y) = true := by
      simp only [cnd, decide_eq_true_eq, N0, N_lt, N_le, N_eq, hz]; omega
    simp only [act, he, acte, if_neg e, jmp]
theorem w_if_ge {x : Int} (he : ft m pc = some (22, v, a, 3, c, n, ts)) (k1 : wr x ≥ (0 : Int) → Wp (d, m, a, L, st, G) Q) (k2 : wr x < (0 : Int) → Wp (d, m, n, L, st, G) Q) : Wp (d, m, pc, L, (.int (N x) :: st), G) Q := by
  have hz : wr 0 = 0 := rfl
  by_cases h : wr x ≥ (0 : Int)
  · refine Wp.next ?_ (k1 h)
    have e : cnd 3 (N x) 0 = true := by
      simp only [cnd, decide_eq_true_eq, N0, N_lt, N_le, N_eq, hz]; omega
    simp only [act, he, acte, e, if_true, jmp]
  · refine Wp.next ?_ (k2 (by omega))
    have e : ¬ cnd 3 (N x) 0 = true := by
      simp only [cnd, decide_eq_true_eq, N0, N_lt, N_le, N_eq, hz]; omega
    simp only [act, he, acte, if_neg e, jmp]
theorem w_icmp_ge {x y : Int} (he : ft m pc = some (23, v, a, 3, c, n, ts)) (k1 : wr x ≥ wr y → Wp (d, m, a, L, st, G) Q) (k2 : wr x < wr y → Wp (d, m, n, L, st, G) Q) : Wp (d, m, pc, L, (.int (N y) :: .int (N x) :: st), G) Q := by
  have hz : wr 0 = 0 := rfl
  by_cases h : wr x ≥ wr y
  · refine Wp.next ?_ (k1 h)
    have e : cnd 3 (N x) (N y) = true := by
      simp only [cnd, decide_eq_true_eq, N0, N_lt, N_le, N_eq, hz]; omega
    simp only [act, he, acte, e, if_true, jmp]
  · refine Wp.next ?_ (k2 (by omega))
    have e : ¬ cnd 3 (N x) (N y) = true := by
      simp only [cnd, decide_eq_true_eq, N0, N_lt, N_le, N_eq, hz]; omega
    simp only [act, he, acte, if_neg e, jmp]
theorem w_if_gt {x : Int} (he : ft m pc = some (22, v, a, 4, c, n, ts)) (k1 : wr x > (0 : Int) → Wp (d, m, a, L, st, G) Q) (k2 : wr x ≤ (0 : Int) → Wp (d, m, n, L, st, G) Q) : Wp (d, m, pc, L, (.int (N x) :: st), G) Q := by
  have hz : wr 0 = 0 := rfl
  by_cases h : wr x > (0 : Int)
  · refine Wp.next ?_ (k1 h)
    have e : cnd 4 (N x) 0 = true := by
      simp only [cnd, decide_eq_true_eq, N0, N_lt, N_le, N_eq, hz]; omega
    simp only [act, he, acte, e, if_true, jmp]
  · refine Wp.next ?_ (k2 (by omega))
    have e : ¬ cnd 4 (N x) 0 = true := by
      simp only [cnd, decide_eq_true_eq, N0, N_lt, N_le, N_eq, hz]; omega
    simp only [act, he, acte, if_neg e, jmp]
theorem w_icmp_gt {x y : Int} (he : ft m pc = some (23, v, a, 4, c, n, ts)) (k1 : wr x > wr y → Wp (d, m, a, L, st, G) Q) (k2 : wr x ≤ wr y → Wp (d, m, n, L, st, G) Q) : Wp (d, m, pc, L, (.int (N y) :: .int (N x) :: st), G) Q := by
  have hz : wr 0 = 0 := rfl
  by_cases h : wr x > wr y
  · refine Wp.next ?_ (k1 h)
    have e : cnd 4 (N x) (N y) = true := by
      simp only [cnd, decide_eq_true_eq, N0, N_lt, N_le, N_eq, hz]; omega
    simp only [act, he, acte, e, if_true, jmp]
  · refine Wp.next ?_ (k2 (by omega))
    have e : ¬ cnd 4 (N x) (N y) = true := by
      simp only [cnd, decide_eq_true_eq, N0, N_lt, N_le, N_eq, hz]; omega
    simp only [act, he, acte, if_neg e, jmp]
theorem w_if_le {x : Int} (he : ft m pc = some (22, v, a, 5, c, n, ts)) (k1 : wr x ≤ (0 : Int) → Wp (d, m, a, L, st, G) Q) (k2 : wr x > (0 : Int) → Wp (d, m, n, L, st, G) Q) : Wp (d, m, pc, L, (.int (N x) :: st), G) Q := by
  have hz : wr 0 = 0 := rfl
  by_cases h : wr x ≤ (0 : Int)
  · refine Wp.next ?_ (k1 h)
    have e : cnd 5 (N x) 0 = true := by
      simp only [cnd, decide_eq_true_eq, N0, N_lt, N_le, N_eq, hz]; omega
    simp only [act, he, acte, e, if_true, jmp]
  · refine Wp.next ?_ (k2 (by omega))
    have e : ¬ cnd 5 (N x) 0 = true := by
      simp only [cnd, decide_eq_true_eq, N0, N_lt, N_le, N_eq, hz]; omega
    simp only [act, he, acte, if_neg e, jmp]
theorem w_icmp_le {x y : Int} (he : ft m pc = some (23, v, a, 5, c, n, ts)) (k1 : wr x ≤ wr y → Wp (d, m, a, L, st, G) Q) (k2 : wr x > wr y → Wp (d, m, n, L, st, G) Q) : Wp (d, m, pc, L, (.int (N y) :: .int (N x) :: st), G) Q := by
  have hz : wr 0 = 0 := rfl
  by_cases h : wr x ≤ wr y
  · refine Wp.next ?_ (k1 h)
    have e : cnd 5 (N x) (N y) = true := by
      simp only [cnd, decide_eq_true_eq, N0, N_lt, N_le, N_eq, hz]; omega
    simp only [act, he, acte, e, if_true, jmp]
  · refine Wp.next ?_ (k2 (by omega))
    have e : ¬ cnd 5 (N x) (N y) = true := by
      simp only [cnd, decide_eq_true_eq, N0, N_lt, N_le, N_eq, hz]; omega
    simp only [act, he, acte, if_neg e, jmp]
theorem w_lif_eq {x y : Int} {n2 a2 c2 : Nat} {v2 : Int32} {ts2 : List Nat} (he : ft m pc = some (16, v, a, b, c, n, ts)) (he2 : ft m n = some (22, v2, a2, 0, c2, n2, ts2)) (k1 : wrJ x = wrJ y → Wp (d, m, a2, L, st, G) Q) (k2 : ¬ wrJ x = wrJ y → Wp (d, m, n2, L, st, G) Q) : Wp (d, m, pc, L, (.long (J y) :: .long (J x) :: st), G) Q := by
  have hx : ∀ z : Int32, act (d, m, n, L, .int z :: st, G) = if cnd 0 z 0 = true then some (.inl (d, m, a2, L, st, G)) else some (.inl (d, m, n2, L, st, G)) := by
    intro z
    simp only [act, he2, acte, jmp]
  have hl : cnd 0 (lg_cmp (J x) (J y)) 0 = true ↔ wrJ x = wrJ y := by
    unfold lg_cmp
    simp only [gt_iff_lt, J_lt, J_eq]
    repeat' split
    all_goals (constructor <;> intro hh <;> first | omega | decide | exact absurd hh (by decide))
  refine Wp.next (y := (d, m, n, L, .int (lg_cmp (J x) (J y)) :: st, G)) (by simp only [act, he, acte, jmp]) ?_
  by_cases h : wrJ x = wrJ y
  · refine Wp.next ?_ (k1 h)
    rw [hx, if_pos (hl.mpr h)]
  · refine Wp.next ?_ (k2 (by omega))
    rw [hx, if_neg (fun q => h (hl.mp q))]
theorem w_lif_ne {x y : Int} {n2 a2 c2 : Nat} {v2 : Int32} {ts2 : List Nat} (he : ft m pc = some (16, v, a, b, c, n, ts)) (he2 : ft m n = some (22, v2, a2, 1, c2, n2, ts2)) (k1 : ¬ wrJ x = wrJ y → Wp (d, m, a2, L, st, G) Q) (k2 : wrJ x = wrJ y → Wp (d, m, n2, L, st, G) Q) : Wp (d, m, pc, L, (.long (J y) :: .long (J x) :: st), G) Q := by
  have hx : ∀ z : Int32, act (d, m, n, L, .int z :: st, G) = if cnd 1 z 0 = true then some (.inl (d, m, a2, L, st, G)) else some (.inl (d, m, n2, L, st, G)) := by
    intro z
    simp only [act, he2, acte, jmp]
  have hl : cnd 1 (lg_cmp (J x) (J y)) 0 = true ↔ ¬ wrJ x = wrJ y := by
    unfold lg_cmp
    simp only [gt_iff_lt, J_lt, J_eq]
    repeat' split
    all_goals (constructor <;> intro hh <;> first | omega | decide | exact absurd hh (by decide))
  refine Wp.next (y := (d, m, n, L, .int (lg_cmp (J x) (J y)) :: st, G)) (by simp only [act, he, acte, jmp]) ?_
  by_cases h : ¬ wrJ x = wrJ y
  · refine Wp.next ?_ (k1 h)
    rw [hx, if_pos (hl.mpr h)]
  · refine Wp.next ?_ (k2 (by omega))
    rw [hx, if_neg (fun q => h (hl.mp q))]
theorem w_lif_lt {x y : Int} {n2 a2 c2 : Nat} {v2 : Int32} {ts2 : List Nat} (he : ft m pc = some (16, v, a, b, c, n, ts)) (he2 : ft m n = some (22, v2, a2, 2, c2, n2, ts2)) (k1 : wrJ x < wrJ y → Wp (d, m, a2, L, st, G) Q) (k2 : wrJ x ≥ wrJ y → Wp (d, m, n2, L, st, G) Q) : Wp (d, m, pc, L, (.long (J y) :: .long (J x) :: st), G) Q := by
  have hx : ∀ z : Int32, act (d, m, n, L, .int z :: st, G) = if cnd 2 z 0 = true then some (.inl (d, m, a2, L, st, G)) else some (.inl (d, m, n2, L, st, G)) := by
    intro z
    simp only [act, he2, acte, jmp]
  have hl : cnd 2 (lg_cmp (J x) (J y)) 0 = true ↔ wrJ x < wrJ y := by
    unfold lg_cmp
    simp only [gt_iff_lt, J_lt, J_eq]
    repeat' split
    all_goals (constructor <;> intro hh <;> first | omega | decide | exact absurd hh (by decide))
  refine Wp.next (y := (d, m, n, L, .int (lg_cmp (J x) (J y)) :: st, G)) (by simp only [act, he, acte, jmp]) ?_
  by_cases h : wrJ x < wrJ y
  · refine Wp.next ?_ (k1 h)
    rw [hx, if_pos (hl.mpr h)]
  · refine Wp.next ?_ (k2 (by omega))
    rw [hx, if_neg (fun q => h (hl.mp q))]
theorem w_lif_ge {x y : Int} {n2 a2 c2 : Nat} {v2 : Int32} {ts2 : List Nat} (he : ft m pc = some (16, v, a, b, c, n, ts)) (he2 : ft m n = some (22, v2, a2, 3, c2, n2, ts2)) (k1 : wrJ x ≥ wrJ y → Wp (d, m, a2, L, st, G) Q) (k2 : wrJ x < wrJ y → Wp (d, m, n2, L, st, G) Q) : Wp (d, m, pc, L, (.long (J y) :: .long (J x) :: st), G) Q := by
  have hx : ∀ z : Int32, act (d, m, n, L, .int z :: st, G) = if cnd 3 z 0 = true then some (.inl (d, m, a2, L, st, G)) else some (.inl (d, m, n2, L, st, G)) := by
    intro z
    simp only [act, he2, acte, jmp]
  have hl : cnd 3 (lg_cmp (J x) (J y)) 0 = true ↔ wrJ x ≥ wrJ y := by
    unfold lg_cmp
    simp only [gt_iff_lt, J_lt, J_eq]
    repeat' split
    all_goals (constructor <;> intro hh <;> first | omega | decide | exact absurd hh (by decide))
  refine Wp.next (y := (d, m, n, L, .int (lg_cmp (J x) (J y)) :: st, G)) (by simp only [act, he, acte, jmp]) ?_
  by_cases h : wrJ x ≥ wrJ y
  · refine Wp.next ?_ (k1 h)
    rw [hx, if_pos (hl.mpr h)]
  · refine Wp.next ?_ (k2 (by omega))
    rw [hx, if_neg (fun q => h (hl.mp q))]
theorem w_lif_gt {x y : Int} {n2 a2 c2 : Nat} {v2 : Int32} {ts2 : List Nat} (he : ft m pc = some (16, v, a, b, c, n, ts)) (he2 : ft m n = some (22, v2, a2, 4, c2, n2, ts2)) (k1 : wrJ x > wrJ y → Wp (d, m, a2, L, st, G) Q) (k2 : wrJ x ≤ wrJ y → Wp (d, m, n2, L, st, G) Q) : Wp (d, m, pc, L, (.long (J y) :: .long (J x) :: st), G) Q := by
  have hx : ∀ z : Int32, act (d, m, n, L, .int z :: st, G) = if cnd 4 z 0 = true then some (.inl (d, m, a2, L, st, G)) else some (.inl (d, m, n2, L, st, G)) := by
    intro z
    simp only [act, he2, acte, jmp]
  have hl : cnd 4 (lg_cmp (J x) (J y)) 0 = true ↔ wrJ x > wrJ y := by
    unfold lg_cmp
    simp only [gt_iff_lt, J_lt, J_eq]
    repeat' split
    all_goals (constructor <;> intro hh <;> first | omega | decide | exact absurd hh (by decide))
  refine Wp.next (y := (d, m, n, L, .int (lg_cmp (J x) (J y)) :: st, G)) (by simp only [act, he, acte, jmp]) ?_
  by_cases h : wrJ x > wrJ y
  · refine Wp.next ?_ (k1 h)
    rw [hx, if_pos (hl.mpr h)]
  · refine Wp.next ?_ (k2 (by omega))
    rw [hx, if_neg (fun q => h (hl.mp q))]
theorem w_lif_le {x y : Int} {n2 a2 c2 : Nat} {v2 : Int32} {ts2 : List Nat} (he : ft m pc = some (16, v, a, b, c, n, ts)) (he2 : ft m n = some (22, v2, a2, 5, c2, n2, ts2)) (k1 : wrJ x ≤ wrJ y → Wp (d, m, a2, L, st, G) Q) (k2 : wrJ x > wrJ y → Wp (d, m, n2, L, st, G) Q) : Wp (d, m, pc, L, (.long (J y) :: .long (J x) :: st), G) Q := by
  have hx : ∀ z : Int32, act (d, m, n, L, .int z :: st, G) = if cnd 5 z 0 = true then some (.inl (d, m, a2, L, st, G)) else some (.inl (d, m, n2, L, st, G)) := by
    intro z
    simp only [act, he2, acte, jmp]
  have hl : cnd 5 (lg_cmp (J x) (J y)) 0 = true ↔ wrJ x ≤ wrJ y := by
    unfold lg_cmp
    simp only [gt_iff_lt, J_lt, J_eq]
    repeat' split
    all_goals (constructor <;> intro hh <;> first | omega | decide | exact absurd hh (by decide))
  refine Wp.next (y := (d, m, n, L, .int (lg_cmp (J x) (J y)) :: st, G)) (by simp only [act, he, acte, jmp]) ?_
  by_cases h : wrJ x ≤ wrJ y
  · refine Wp.next ?_ (k1 h)
    rw [hx, if_pos (hl.mpr h)]
  · refine Wp.next ?_ (k2 (by omega))
    rw [hx, if_neg (fun q => h (hl.mp q))]
theorem w_ifnullN (he : ft m pc = some (24, v, a, 0, c, n, ts)) (k : Wp (d, m, a, L, st, G) Q) : Wp (d, m, pc, L, (.null :: st), G) Q := Wp.next (by simp only [act, he, acte, jmp, if_true]) k
theorem w_ifnullR {x : Nat} (he : ft m pc = some (24, v, a, 0, c, n, ts)) (k : Wp (d, m, n, L, st, G) Q) : Wp (d, m, pc, L, (.ref x :: st), G) Q := Wp.next (by simp only [act, he, acte, jmp, if_true]) k
theorem w_ifnonnullN (he : ft m pc = some (24, v, a, 1, c, n, ts)) (k : Wp (d, m, n, L, st, G) Q) : Wp (d, m, pc, L, (.null :: st), G) Q := Wp.next (by simp only [act, he, acte, jmp, Nat.one_ne_zero, if_false]) k
theorem w_ifnonnullR {x : Nat} (he : ft m pc = some (24, v, a, 1, c, n, ts)) (k : Wp (d, m, a, L, st, G) Q) : Wp (d, m, pc, L, (.ref x :: st), G) Q := Wp.next (by simp only [act, he, acte, jmp, Nat.one_ne_zero, if_false]) k
theorem w_acmp_eq {x y : Nat} (he : ft m pc = some (25, v, a, 0, c, n, ts)) (hok : acok x y = true) (k1 : x = y → Wp (d, m, a, L, st, G) Q) (k2 : ¬ x = y → Wp (d, m, n, L, st, G) Q) : Wp (d, m, pc, L, (.ref y :: .ref x :: st), G) Q := by
  by_cases h : x = y
  · refine Wp.next ?_ (k1 h)
    subst h
    simp only [act, he, acte, hok, if_true, jmp, Nat.one_ne_zero, if_false, not_true_eq_false]
  · refine Wp.next ?_ (k2 h)
    simp only [act, he, acte, hok, if_true, jmp, h, Nat.one_ne_zero, if_false, not_false_eq_true]
theorem w_acmp_ne {x y : Nat} (he : ft m pc = some (25, v, a, 1, c, n, ts)) (hok : acok x y = true) (k1 : ¬ x = y → Wp (d, m, a, L, st, G) Q) (k2 : x = y → Wp (d, m, n, L, st, G) Q) : Wp (d, m, pc, L, (.ref y :: .ref x :: st), G) Q := by
  by_cases h : x = y
  · refine Wp.next ?_ (k2 h)
    subst h
    simp only [act, he, acte, hok, if_true, jmp, Nat.one_ne_zero, if_false, not_true_eq_false]
  · refine Wp.next ?_ (k1 h)
    simp only [act, he, acte, hok, if_true, jmp, h, Nat.one_ne_zero, if_false, not_false_eq_true]
theorem w_switchIn {x : Int} (i : Nat) (he : ft m pc = some (26, v, a, b, c, n, ts)) (hx : wr x = v.toInt + i) (hi : i < ts.length) (k : Wp (d, m, (ts.getD i 0), L, st, G) Q) : Wp (d, m, pc, L, (.int (N x) :: st), G) Q := Wp.next (by
  have e : (N x).toInt - v.toInt = i := by
    have : (N x).toInt = wr x := rfl
    omega
  simp only [act, he, acte, e]
  rw [if_pos ⟨by omega, by simpa using hi⟩]
  simp [jmp]) k
theorem w_switchOut {x : Int} (he : ft m pc = some (26, v, a, b, c, n, ts)) (hx : wr x < v.toInt ∨ wr x ≥ v.toInt + ts.length) (k : Wp (d, m, a, L, st, G) Q) : Wp (d, m, pc, L, (.int (N x) :: st), G) Q := Wp.next (by
  have e : (N x).toInt = wr x := rfl
  simp only [act, he, acte, e]
  rw [if_neg (by omega)]
  simp [jmp]) k
theorem w_dup {x : Value} (he : ft m pc = some (28, v, a, b, c, n, ts)) (hx : isW (some x) = false) (k : Wp (d, m, n, L, (x :: x :: st), G) Q) : Wp (d, m, pc, L, (x :: st), G) Q := Wp.next (by simp only [act, he, acte, jmp, hx, if_true]) k
theorem w_pop {x : Value} (he : ft m pc = some (29, v, a, b, c, n, ts)) (hx : isW (some x) = false) (k : Wp (d, m, n, L, st, G) Q) : Wp (d, m, pc, L, (x :: st), G) Q := Wp.next (by simp only [act, he, acte, jmp, hx, if_true]) k
theorem w_dup_x1 {x y : Value} (he : ft m pc = some (31, v, a, b, c, n, ts)) (hx : isW (some x) = false) (hy : isW (some y) = false) (k : Wp (d, m, n, L, (x :: y :: x :: st), G) Q) : Wp (d, m, pc, L, (x :: y :: st), G) Q := Wp.next (by simp only [act, he, acte, jmp, hx, hy, and_self, if_true]) k
theorem w_dup2 {x y : Value} (he : ft m pc = some (32, v, a, b, c, n, ts)) (hx : isW (some x) = false) (hy : isW (some y) = false) (k : Wp (d, m, n, L, (x :: y :: x :: y :: st), G) Q) : Wp (d, m, pc, L, (x :: y :: st), G) Q := Wp.next (by simp only [act, he, acte, jmp, hx, hy, and_self, if_true]) k
theorem w_getI0 {x : Nat} (he : ft m pc = some (30, v, a, b, 0, n, ts)) (ht : tg G x = a) (k : Wp (d, m, n, L, (.int (N (zF G x b)) :: st), G) Q) : Wp (d, m, pc, L, (.ref x :: st), G) Q := Wp.next (by
  have e : gv G 0 x b = .int (N (zF G x b)) := ldI G x b
  simp only [act, he, acte, ht, if_true, jmp, e]) k
theorem w_getI0k {x : Nat} {z : Int} (he : ft m pc = some (30, v, a, b, 0, n, ts)) (ht : tg G x = a) (hz : zF G x b = z) (k : Wp (d, m, n, L, (.int (N z) :: st), G) Q) : Wp (d, m, pc, L, (.ref x :: st), G) Q := w_getI0 he ht (by rw [hz]; exact k)
theorem w_getI4 {x : Nat} (he : ft m pc = some (30, v, a, b, 4, n, ts)) (ht : tg G x = a) (k : Wp (d, m, n, L, (.int (N (zF G x b)) :: st), G) Q) : Wp (d, m, pc, L, (.ref x :: st), G) Q := Wp.next (by
  have e : gv G 4 x b = .int (N (zF G x b)) := ldI G x b
  simp only [act, he, acte, ht, if_true, jmp, e]) k
theorem w_getI4k {x : Nat} {z : Int} (he : ft m pc = some (30, v, a, b, 4, n, ts)) (ht : tg G x = a) (hz : zF G x b = z) (k : Wp (d, m, n, L, (.int (N z) :: st), G) Q) : Wp (d, m, pc, L, (.ref x :: st), G) Q := w_getI4 he ht (by rw [hz]; exact k)
theorem w_getI5 {x : Nat} (he : ft m pc = some (30, v, a, b, 5, n, ts)) (ht : tg G x = a) (k : Wp (d, m, n, L, (.int (N (zF G x b)) :: st), G) Q) : Wp (d, m, pc, L, (.ref x :: st), G) Q := Wp.next (by
  have e : gv G 5 x b = .int (N (zF G x b)) := ldI G x b
  simp only [act, he, acte, ht, if_true, jmp, e]) k
theorem w_getI5k {x : Nat} {z : Int} (he : ft m pc = some (30, v, a, b, 5, n, ts)) (ht : tg G x = a) (hz : zF G x b = z) (k : Wp (d, m, n, L, (.int (N z) :: st), G) Q) : Wp (d, m, pc, L, (.ref x :: st), G) Q := w_getI5 he ht (by rw [hz]; exact k)
theorem w_getI6 {x : Nat} (he : ft m pc = some (30, v, a, b, 6, n, ts)) (ht : tg G x = a) (k : Wp (d, m, n, L, (.int (N (zF G x b)) :: st), G) Q) : Wp (d, m, pc, L, (.ref x :: st), G) Q := Wp.next (by
  have e : gv G 6 x b = .int (N (zF G x b)) := ldI G x b
  simp only [act, he, acte, ht, if_true, jmp, e]) k
theorem w_getI6k {x : Nat} {z : Int} (he : ft m pc = some (30, v, a, b, 6, n, ts)) (ht : tg G x = a) (hz : zF G x b = z) (k : Wp (d, m, n, L, (.int (N z) :: st), G) Q) : Wp (d, m, pc, L, (.ref x :: st), G) Q := w_getI6 he ht (by rw [hz]; exact k)
theorem w_getJ {x : Nat} (he : ft m pc = some (30, v, a, b, 1, n, ts)) (ht : tg G x = a) (k : Wp (d, m, n, L, (.long (gJ G x b) :: st), G) Q) : Wp (d, m, pc, L, (.ref x :: st), G) Q := Wp.next (by simp only [act, he, acte, ht, if_true, jmp, gv]) k
theorem w_getD {x : Nat} (he : ft m pc = some (30, v, a, b, 2, n, ts)) (ht : tg G x = a) (k : Wp (d, m, n, L, (.double (gD G x b) :: st), G) Q) : Wp (d, m, pc, L, (.ref x :: st), G) Q := Wp.next (by simp only [act, he, acte, ht, if_true, jmp, gv]) k
theorem w_getP {x y : Nat} (he : ft m pc = some (30, v, a, b, 3, n, ts)) (ht : tg G x = a) (hp : gP G x b = some y) (k : Wp (d, m, n, L, (.ref y :: st), G) Q) : Wp (d, m, pc, L, (.ref x :: st), G) Q := Wp.next (by simp only [act, he, acte, ht, if_true, jmp, gv, hp, rv]) k
theorem w_getPN {x : Nat} (he : ft m pc = some (30, v, a, b, 3, n, ts)) (ht : tg G x = a) (hp : gP G x b = none) (k : Wp (d, m, n, L, (.null :: st), G) Q) : Wp (d, m, pc, L, (.ref x :: st), G) Q := Wp.next (by simp only [act, he, acte, ht, if_true, jmp, gv, hp, rv]) k
theorem w_getPo {x : Nat} (he : ft m pc = some (30, v, a, b, 3, n, ts)) (ht : tg G x = a) (k : Wp (d, m, n, L, (rv (gP G x b) :: st), G) Q) : Wp (d, m, pc, L, (.ref x :: st), G) Q := Wp.next (by simp only [act, he, acte, ht, if_true, jmp, gv]) k
theorem w_putI0 {x : Nat} {z : Int} (he : ft m pc = some (33, v, a, b, 0, n, ts)) (ht : tg G x = a) (k : Wp (d, m, n, L, st, wF G x b z) Q) : Wp (d, m, pc, L, (.int (N z) :: .ref x :: st), G) Q := Wp.next (by simp only [act, he, acte, ht, if_true, jmp, pv, wF]) k
theorem w_putI4 {x : Nat} {z : Int} (he : ft m pc = some (33, v, a, b, 4, n, ts)) (ht : tg G x = a) (hz : z = 0 ∨ z = 1) (k : Wp (d, m, n, L, st, wF G x b z) Q) : Wp (d, m, pc, L, (.int (N z) :: .ref x :: st), G) Q := Wp.next (by
  have e : bit (N z) = true := by rcases hz with rfl | rfl <;> rfl
  simp only [act, he, acte, ht, if_true, jmp, pv, wF, e]) k
theorem w_putJ {x : Nat} {z : Int64} (he : ft m pc = some (33, v, a, b, 1, n, ts)) (ht : tg G x = a) (k : Wp (d, m, n, L, st, sJ G x b z) Q) : Wp (d, m, pc, L, (.long z :: .ref x :: st), G) Q := Wp.next (by simp only [act, he, acte, ht, if_true, jmp, pv]) k
theorem w_putD {x : Nat} {z : UInt64} (he : ft m pc = some (33, v, a, b, 2, n, ts)) (ht : tg G x = a) (k : Wp (d, m, n, L, st, sD G x b z) Q) : Wp (d, m, pc, L, (.double z :: .ref x :: st), G) Q := Wp.next (by simp only [act, he, acte, ht, if_true, jmp, pv]) k
theorem w_putP {x y : Nat} (he : ft m pc = some (33, v, a, b, 3, n, ts)) (ht : tg G x = a) (k : Wp (d, m, n, L, st, sP G x b (some y)) Q) : Wp (d, m, pc, L, (.ref y :: .ref x :: st), G) Q := Wp.next (by simp only [act, he, acte, ht, if_true, jmp, pv]) k
theorem w_putPN {x : Nat} (he : ft m pc = some (33, v, a, b, 3, n, ts)) (ht : tg G x = a) (k : Wp (d, m, n, L, st, sP G x b none) Q) : Wp (d, m, pc, L, (.null :: .ref x :: st), G) Q := Wp.next (by simp only [act, he, acte, ht, if_true, jmp, pv]) k
theorem w_iald {x K : Nat} {z : Int} (he : ft m pc = some (34, v, 0, b, c, n, ts)) (ht : tg G x = 50) (hn : ln G x = K) (hz : 0 ≤ z ∧ z < K) (hK : K ≤ 100000) (k : Wp (d, m, n, L, (.int (N (zA G x z)) :: st), G) Q) : Wp (d, m, pc, L, (.int (N z) :: .ref x :: st), G) Q := Wp.next (by
  obtain ⟨e1, e2⟩ := inbN hz hK
  simp only [act, he, acte, ht, hn, e1, e2, ldok, beq_self_eq_true, Bool.true_or, Bool.or_true, and_self, if_true, jmp, asrt, gv]
  simp only [zA, N_toInt]) k
theorem w_sald {x K : Nat} {z : Int} (he : ft m pc = some (34, v, 0, b, c, n, ts)) (ht : tg G x = 62) (hn : ln G x = K) (hz : 0 ≤ z ∧ z < K) (hK : K ≤ 100000) (k : Wp (d, m, n, L, (.int (N (zA G x z)) :: st), G) Q) : Wp (d, m, pc, L, (.int (N z) :: .ref x :: st), G) Q := Wp.next (by
  obtain ⟨e1, e2⟩ := inbN hz hK
  simp only [act, he, acte, ht, hn, e1, e2, ldok, beq_self_eq_true, Bool.true_or, Bool.or_true, and_self, if_true, jmp, asrt, gv]
  simp only [zA, N_toInt]) k
theorem w_lald {x K : Nat} {z : Int} (he : ft m pc = some (34, v, 1, b, c, n, ts)) (ht : tg G x = 54) (hn : ln G x = K) (hz : 0 ≤ z ∧ z < K) (hK : K ≤ 100000) (k : Wp (d, m, n, L, (.long (J (zL G x z)) :: st), G) Q) : Wp (d, m, pc, L, (.int (N z) :: .ref x :: st), G) Q := Wp.next (by
  obtain ⟨e1, e2⟩ := inbN hz hK
  simp only [act, he, acte, ht, hn, e1, e2, ldok, beq_self_eq_true, Bool.true_or, Bool.or_true, and_self, if_true, jmp, asrt, gv]
  simp only [zL, J_toInt]) k
theorem w_dald {x K : Nat} {z : Int} (he : ft m pc = some (34, v, 2, b, c, n, ts)) (ht : tg G x = 55) (hn : ln G x = K) (hz : 0 ≤ z ∧ z < K) (hK : K ≤ 100000) (k : Wp (d, m, n, L, (.double (dA G x z) :: st), G) Q) : Wp (d, m, pc, L, (.int (N z) :: .ref x :: st), G) Q := Wp.next (by
  obtain ⟨e1, e2⟩ := inbN hz hK
  simp only [act, he, acte, ht, hn, e1, e2, ldok, beq_self_eq_true, Bool.true_or, Bool.or_true, and_self, if_true, jmp, asrt, gv, dA]) k
theorem w_zald {x K : Nat} {z : Int} (he : ft m pc = some (34, v, 4, b, c, n, ts)) (ht : tg G x = 51) (hn : ln G x = K) (hz : 0 ≤ z ∧ z < K) (hK : K ≤ 100000) (k : Wp (d, m, n, L, (.int (N (zA G x z)) :: st), G) Q) : Wp (d, m, pc, L, (.int (N z) :: .ref x :: st), G) Q := Wp.next (by
  obtain ⟨e1, e2⟩ := inbN hz hK
  simp only [act, he, acte, ht, hn, e1, e2, ldok, beq_self_eq_true, Bool.true_or, Bool.or_true, and_self, if_true, jmp, asrt, gv]
  simp only [zA, N_toInt]) k
theorem w_bald {x K : Nat} {z : Int} (he : ft m pc = some (34, v, 4, b, c, n, ts)) (ht : tg G x = 53) (hn : ln G x = K) (hz : 0 ≤ z ∧ z < K) (hK : K ≤ 100000) (k : Wp (d, m, n, L, (.int (N (zA G x z)) :: st), G) Q) : Wp (d, m, pc, L, (.int (N z) :: .ref x :: st), G) Q := Wp.next (by
  obtain ⟨e1, e2⟩ := inbN hz hK
  simp only [act, he, acte, ht, hn, e1, e2, ldok, beq_self_eq_true, Bool.true_or, Bool.or_true, and_self, if_true, jmp, asrt, gv]
  simp only [zA, N_toInt]) k
theorem w_cald {x K : Nat} {z : Int} (he : ft m pc = some (34, v, 5, b, c, n, ts)) (ht : tg G x = 52) (hn : ln G x = K) (hz : 0 ≤ z ∧ z < K) (hK : K ≤ 100000) (k : Wp (d, m, n, L, (.int (N (zA G x z)) :: st), G) Q) : Wp (d, m, pc, L, (.int (N z) :: .ref x :: st), G) Q := Wp.next (by
  obtain ⟨e1, e2⟩ := inbN hz hK
  simp only [act, he, acte, ht, hn, e1, e2, ldok, beq_self_eq_true, Bool.true_or, Bool.or_true, and_self, if_true, jmp, asrt, gv]
  simp only [zA, N_toInt]) k
theorem w_aald56 {x K y : Nat} {z : Int} (he : ft m pc = some (34, v, 3, b, c, n, ts)) (ht : tg G x = 56) (hn : ln G x = K) (hz : 0 ≤ z ∧ z < K) (hK : K ≤ 100000) (hp : pA G x z = some y) (k : Wp (d, m, n, L, (.ref y :: st), G) Q) : Wp (d, m, pc, L, (.int (N z) :: .ref x :: st), G) Q := Wp.next (by
  obtain ⟨e1, e2⟩ := inbN hz hK
  have hp2 : gP G x z.toNat = some y := hp
  simp only [act, he, acte, ht, hn, e1, e2, ldok, beq_self_eq_true, Bool.true_or, Bool.or_true, and_self, if_true, jmp, asrt, gv, hp2, rv]) k
theorem w_aald56N {x K : Nat} {z : Int} (he : ft m pc = some (34, v, 3, b, c, n, ts)) (ht : tg G x = 56) (hn : ln G x = K) (hz : 0 ≤ z ∧ z < K) (hK : K ≤ 100000) (hp : pA G x z = none) (k : Wp (d, m, n, L, (.null :: st), G) Q) : Wp (d, m, pc, L, (.int (N z) :: .ref x :: st), G) Q := Wp.next (by
  obtain ⟨e1, e2⟩ := inbN hz hK
  have hp2 : gP G x z.toNat = none := hp
  simp only [act, he, acte, ht, hn, e1, e2, ldok, beq_self_eq_true, Bool.true_or, Bool.or_true, and_self, if_true, jmp, asrt, gv, hp2, rv]) k
theorem w_aald57 {x K y : Nat} {z : Int} (he : ft m pc = some (34, v, 3, b, c, n, ts)) (ht : tg G x = 57) (hn : ln G x = K) (hz : 0 ≤ z ∧ z < K) (hK : K ≤ 100000) (hp : pA G x z = some y) (k : Wp (d, m, n, L, (.ref y :: st), G) Q) : Wp (d, m, pc, L, (.int (N z) :: .ref x :: st), G) Q := Wp.next (by
  obtain ⟨e1, e2⟩ := inbN hz hK
  have hp2 : gP G x z.toNat = some y := hp
  simp only [act, he, acte, ht, hn, e1, e2, ldok, beq_self_eq_true, Bool.true_or, Bool.or_true, and_self, if_true, jmp, asrt, gv, hp2, rv]) k
theorem w_aald57N {x K : Nat} {z : Int} (he : ft m pc = some (34, v, 3, b, c, n, ts)) (ht : tg G x = 57) (hn : ln G x = K) (hz : 0 ≤ z ∧ z < K) (hK : K ≤ 100000) (hp : pA G x z = none) (k : Wp (d, m, n, L, (.null :: st), G) Q) : Wp (d, m, pc, L, (.int (N z) :: .ref x :: st), G) Q := Wp.next (by
  obtain ⟨e1, e2⟩ := inbN hz hK
  have hp2 : gP G x z.toNat = none := hp
  simp only [act, he, acte, ht, hn, e1, e2, ldok, beq_self_eq_true, Bool.true_or, Bool.or_true, and_self, if_true, jmp, asrt, gv, hp2, rv]) k
theorem w_aald58 {x K y : Nat} {z : Int} (he : ft m pc = some (34, v, 3, b, c, n, ts)) (ht : tg G x = 58) (hn : ln G x = K) (hz : 0 ≤ z ∧ z < K) (hK : K ≤ 100000) (hp : pA G x z = some y) (k : Wp (d, m, n, L, (.ref y :: st), G) Q) : Wp (d, m, pc, L, (.int (N z) :: .ref x :: st), G) Q := Wp.next (by
  obtain ⟨e1, e2⟩ := inbN hz hK
  have hp2 : gP G x z.toNat = some y := hp
  simp only [act, he, acte, ht, hn, e1, e2, ldok, beq_self_eq_true, Bool.true_or, Bool.or_true, and_self, if_true, jmp, asrt, gv, hp2, rv]) k
theorem w_aald58N {x K : Nat} {z : Int} (he : ft m pc = some (34, v, 3, b, c, n, ts)) (ht : tg G x = 58) (hn : ln G x = K) (hz : 0 ≤ z ∧ z < K) (hK : K ≤ 100000) (hp : pA G x z = none) (k : Wp (d, m, n, L, (.null :: st), G) Q) : Wp (d, m, pc, L, (.int (N z) :: .ref x :: st), G) Q := Wp.next (by
  obtain ⟨e1, e2⟩ := inbN hz hK
  have hp2 : gP G x z.toNat = none := hp
  simp only [act, he, acte, ht, hn, e1, e2, ldok, beq_self_eq_true, Bool.true_or, Bool.or_true, and_self, if_true, jmp, asrt, gv, hp2, rv]) k
theorem w_aald59 {x K y : Nat} {z : Int} (he : ft m pc = some (34, v, 3, b, c, n, ts)) (ht : tg G x = 59) (hn : ln G x = K) (hz : 0 ≤ z ∧ z < K) (hK : K ≤ 100000) (hp : pA G x z = some y) (k : Wp (d, m, n, L, (.ref y :: st), G) Q) : Wp (d, m, pc, L, (.int (N z) :: .ref x :: st), G) Q := Wp.next (by
  obtain ⟨e1, e2⟩ := inbN hz hK
  have hp2 : gP G x z.toNat = some y := hp
  simp only [act, he, acte, ht, hn, e1, e2, ldok, beq_self_eq_true, Bool.true_or, Bool.or_true, and_self, if_true, jmp, asrt, gv, hp2, rv]) k
theorem w_aald59N {x K : Nat} {z : Int} (he : ft m pc = some (34, v, 3, b, c, n, ts)) (ht : tg G x = 59) (hn : ln G x = K) (hz : 0 ≤ z ∧ z < K) (hK : K ≤ 100000) (hp : pA G x z = none) (k : Wp (d, m, n, L, (.null :: st), G) Q) : Wp (d, m, pc, L, (.int (N z) :: .ref x :: st), G) Q := Wp.next (by
  obtain ⟨e1, e2⟩ := inbN hz hK
  have hp2 : gP G x z.toNat = none := hp
  simp only [act, he, acte, ht, hn, e1, e2, ldok, beq_self_eq_true, Bool.true_or, Bool.or_true, and_self, if_true, jmp, asrt, gv, hp2, rv]) k
theorem w_aald60 {x K y : Nat} {z : Int} (he : ft m pc = some (34, v, 3, b, c, n, ts)) (ht : tg G x = 60) (hn : ln G x = K) (hz : 0 ≤ z ∧ z < K) (hK : K ≤ 100000) (hp : pA G x z = some y) (k : Wp (d, m, n, L, (.ref y :: st), G) Q) : Wp (d, m, pc, L, (.int (N z) :: .ref x :: st), G) Q := Wp.next (by
  obtain ⟨e1, e2⟩ := inbN hz hK
  have hp2 : gP G x z.toNat = some y := hp
  simp only [act, he, acte, ht, hn, e1, e2, ldok, beq_self_eq_true, Bool.true_or, Bool.or_true, and_self, if_true, jmp, asrt, gv, hp2, rv]) k
theorem w_aald60N {x K : Nat} {z : Int} (he : ft m pc = some (34, v, 3, b, c, n, ts)) (ht : tg G x = 60) (hn : ln G x = K) (hz : 0 ≤ z ∧ z < K) (hK : K ≤ 100000) (hp : pA G x z = none) (k : Wp (d, m, n, L, (.null :: st), G) Q) : Wp (d, m, pc, L, (.int (N z) :: .ref x :: st), G) Q := Wp.next (by
  obtain ⟨e1, e2⟩ := inbN hz hK
  have hp2 : gP G x z.toNat = none := hp
  simp only [act, he, acte, ht, hn, e1, e2, ldok, beq_self_eq_true, Bool.true_or, Bool.or_true, and_self, if_true, jmp, asrt, gv, hp2, rv]) k
theorem w_iast {x K : Nat} {z : Int} {u : Int} (he : ft m pc = some (35, v, 0, b, c, n, ts)) (ht : tg G x = 50) (hn : ln G x = K) (hz : 0 ≤ z ∧ z < K) (hK : K ≤ 100000) (k : Wp (d, m, n, L, st, wA G x z u) Q) : Wp (d, m, pc, L, (.int (N u) :: .int (N z) :: .ref x :: st), G) Q := Wp.next (by
  obtain ⟨e1, e2⟩ := inbN hz hK
  simp only [act, he, acte, ht, hn, e1, e2, stok, beq_self_eq_true, and_self, if_true, asrt, pv]
  rfl) k
theorem w_last {x K : Nat} {z : Int} {u : Int64} (he : ft m pc = some (35, v, 1, b, c, n, ts)) (ht : tg G x = 54) (hn : ln G x = K) (hz : 0 ≤ z ∧ z < K) (hK : K ≤ 100000) (k : Wp (d, m, n, L, st, wJ G x z u) Q) : Wp (d, m, pc, L, (.long u :: .int (N z) :: .ref x :: st), G) Q := Wp.next (by
  obtain ⟨e1, e2⟩ := inbN hz hK
  simp only [act, he, acte, ht, hn, e1, e2, stok, beq_self_eq_true, and_self, if_true, asrt, pv]
  rfl) k
theorem w_dast {x K : Nat} {z : Int} {u : UInt64} (he : ft m pc = some (35, v, 2, b, c, n, ts)) (ht : tg G x = 55) (hn : ln G x = K) (hz : 0 ≤ z ∧ z < K) (hK : K ≤ 100000) (k : Wp (d, m, n, L, st, wD G x z u) Q) : Wp (d, m, pc, L, (.double u :: .int (N z) :: .ref x :: st), G) Q := Wp.next (by
  obtain ⟨e1, e2⟩ := inbN hz hK
  simp only [act, he, acte, ht, hn, e1, e2, stok, beq_self_eq_true, and_self, if_true, asrt, pv]
  rfl) k
theorem w_zast {x K : Nat} {z : Int} {u : Int} (he : ft m pc = some (35, v, 4, b, c, n, ts)) (ht : tg G x = 51) (hn : ln G x = K) (hz : 0 ≤ z ∧ z < K) (hK : K ≤ 100000) (hu : u = 0 ∨ u = 1) (k : Wp (d, m, n, L, st, wA G x z u) Q) : Wp (d, m, pc, L, (.int (N u) :: .int (N z) :: .ref x :: st), G) Q := Wp.next (by
  obtain ⟨e1, e2⟩ := inbN hz hK
  have e3 : bit (N u) = true := by rcases hu with rfl | rfl <;> rfl
  simp only [act, he, acte, ht, hn, e1, e2, stok, beq_self_eq_true, and_self, if_true, asrt, pv, e3]
  rfl) k
theorem w_chast {x K : Nat} {z : Int} {u : Int} (he : ft m pc = some (35, v, 5, b, c, n, ts)) (ht : tg G x = 52) (hn : ln G x = K) (hz : 0 ≤ z ∧ z < K) (hK : K ≤ 100000) (hu : 0 ≤ u ∧ u < 65536) (k : Wp (d, m, n, L, st, wA G x z u) Q) : Wp (d, m, pc, L, (.int (N u) :: .int (N z) :: .ref x :: st), G) Q := Wp.next (by
  obtain ⟨e1, e2⟩ := inbN hz hK
  have e3 : chr (N u) = true := by
    have e : (N u).toInt = u := wr_id (by omega) (by omega)
    unfold chr; rw [e]; simp; omega
  simp only [act, he, acte, ht, hn, e1, e2, stok, beq_self_eq_true, and_self, if_true, asrt, pv, e3]
  rfl) k
theorem w_aast56 {x K u : Nat} {z : Int} (he : ft m pc = some (35, v, 3, b, c, n, ts)) (ht : tg G x = 56) (hn : ln G x = K) (hz : 0 ≤ z ∧ z < K) (hK : K ≤ 100000) (hu : (4 ≤ tg G u ∧ tg G u ≤ 19)) (k : Wp (d, m, n, L, st, wP G x z (some u)) Q) : Wp (d, m, pc, L, (.ref u :: .int (N z) :: .ref x :: st), G) Q := Wp.next (by
  obtain ⟨e1, e2⟩ := inbN hz hK
  have e3 : stok 3 56 (tg G u) = true := by
    unfold stok
    simp
    omega
  have e4 : tgv G (.ref u) = tg G u := rfl
  simp only [act, he, acte, ht, hn, e1, e2, e3, e4, and_self, if_true, asrt, pv]
  rfl) k
theorem w_aast56N {x K : Nat} {z : Int} (he : ft m pc = some (35, v, 3, b, c, n, ts)) (ht : tg G x = 56) (hn : ln G x = K) (hz : 0 ≤ z ∧ z < K) (hK : K ≤ 100000) (k : Wp (d, m, n, L, st, wP G x z none) Q) : Wp (d, m, pc, L, (.null :: .int (N z) :: .ref x :: st), G) Q := Wp.next (by
  obtain ⟨e1, e2⟩ := inbN hz hK
  have e3 : stok 3 56 99 = true := by decide
  have e4 : tgv G .null = 99 := rfl
  simp only [act, he, acte, ht, hn, e1, e2, e3, e4, and_self, if_true, asrt, pv]
  rfl) k
theorem w_aast57 {x K u : Nat} {z : Int} (he : ft m pc = some (35, v, 3, b, c, n, ts)) (ht : tg G x = 57) (hn : ln G x = K) (hz : 0 ≤ z ∧ z < K) (hK : K ≤ 100000) (hu : (9 ≤ tg G u ∧ tg G u ≤ 19)) (k : Wp (d, m, n, L, st, wP G x z (some u)) Q) : Wp (d, m, pc, L, (.ref u :: .int (N z) :: .ref x :: st), G) Q := Wp.next (by
  obtain ⟨e1, e2⟩ := inbN hz hK
  have e3 : stok 3 57 (tg G u) = true := by
    unfold stok
    simp
    omega
  have e4 : tgv G (.ref u) = tg G u := rfl
  simp only [act, he, acte, ht, hn, e1, e2, e3, e4, and_self, if_true, asrt, pv]
  rfl) k
theorem w_aast57N {x K : Nat} {z : Int} (he : ft m pc = some (35, v, 3, b, c, n, ts)) (ht : tg G x = 57) (hn : ln G x = K) (hz : 0 ≤ z ∧ z < K) (hK : K ≤ 100000) (k : Wp (d, m, n, L, st, wP G x z none) Q) : Wp (d, m, pc, L, (.null :: .int (N z) :: .ref x :: st), G) Q := Wp.next (by
  obtain ⟨e1, e2⟩ := inbN hz hK
  have e3 : stok 3 57 99 = true := by decide
  have e4 : tgv G .null = 99 := rfl
  simp only [act, he, acte, ht, hn, e1, e2, e3, e4, and_self, if_true, asrt, pv]
  rfl) k
theorem w_aast58 {x K u : Nat} {z : Int} (he : ft m pc = some (35, v, 3, b, c, n, ts)) (ht : tg G x = 58) (hn : ln G x = K) (hz : 0 ≤ z ∧ z < K) (hK : K ≤ 100000) (hu : tg G u = 25) (k : Wp (d, m, n, L, st, wP G x z (some u)) Q) : Wp (d, m, pc, L, (.ref u :: .int (N z) :: .ref x :: st), G) Q := Wp.next (by
  obtain ⟨e1, e2⟩ := inbN hz hK
  have e3 : stok 3 58 (tg G u) = true := by
    unfold stok
    simp
    omega
  have e4 : tgv G (.ref u) = tg G u := rfl
  simp only [act, he, acte, ht, hn, e1, e2, e3, e4, and_self, if_true, asrt, pv]
  rfl) k
theorem w_aast58N {x K : Nat} {z : Int} (he : ft m pc = some (35, v, 3, b, c, n, ts)) (ht : tg G x = 58) (hn : ln G x = K) (hz : 0 ≤ z ∧ z < K) (hK : K ≤ 100000) (k : Wp (d, m, n, L, st, wP G x z none) Q) : Wp (d, m, pc, L, (.null :: .int (N z) :: .ref x :: st), G) Q := Wp.next (by
  obtain ⟨e1, e2⟩ := inbN hz hK
  have e3 : stok 3 58 99 = true := by decide
  have e4 : tgv G .null = 99 := rfl
  simp only [act, he, acte, ht, hn, e1, e2, e3, e4, and_self, if_true, asrt, pv]
  rfl) k
theorem w_aast59 {x K u : Nat} {z : Int} (he : ft m pc = some (35, v, 3, b, c, n, ts)) (ht : tg G x = 59) (hn : ln G x = K) (hz : 0 ≤ z ∧ z < K) (hK : K ≤ 100000) (hu : tg G u = 3) (k : Wp (d, m, n, L, st, wP G x z (some u)) Q) : Wp (d, m, pc, L, (.ref u :: .int (N z) :: .ref x :: st), G) Q := Wp.next (by
  obtain ⟨e1, e2⟩ := inbN hz hK
  have e3 : stok 3 59 (tg G u) = true := by
    unfold stok
    simp
    omega
  have e4 : tgv G (.ref u) = tg G u := rfl
  simp only [act, he, acte, ht, hn, e1, e2, e3, e4, and_self, if_true, asrt, pv]
  rfl) k
theorem w_aast59N {x K : Nat} {z : Int} (he : ft m pc = some (35, v, 3, b, c, n, ts)) (ht : tg G x = 59) (hn : ln G x = K) (hz : 0 ≤ z ∧ z < K) (hK : K ≤ 100000) (k : Wp (d, m, n, L, st, wP G x z none) Q) : Wp (d, m, pc, L, (.null :: .int (N z) :: .ref x :: st), G) Q := Wp.next (by
  obtain ⟨e1, e2⟩ := inbN hz hK
  have e3 : stok 3 59 99 = true := by decide
  have e4 : tgv G .null = 99 := rfl
  simp only [act, he, acte, ht, hn, e1, e2, e3, e4, and_self, if_true, asrt, pv]
  rfl) k
theorem N_ofNat (K : Nat) : Int32.ofNat K = N K := by unfold N; rw [Int32.ofInt_eq_ofNat]
theorem w_alen {x K t : Nat} (he : ft m pc = some (36, v, a, b, c, n, ts)) (ht : tg G x = t) (hs : ¬ asrt t = 9) (hn : ln G x = K) (k : Wp (d, m, n, L, (.int (N K) :: st), G) Q) : Wp (d, m, pc, L, (.ref x :: st), G) Q := Wp.next (by
  subst ht
  simp only [act, he, acte, hs, not_false_eq_true, if_true, jmp, hn, N_ofNat]) k
theorem w_newa {z : Int} (he : ft m pc = some (37, v, a, b, c, n, ts)) (hz : 0 ≤ z ∧ z < 100000) (k : Wp (d, m, n, L, (.ref (nx G) :: st), al G a z.toNat z.toNat) Q) : Wp (d, m, pc, L, (.int (N z) :: st), G) Q := Wp.next (by
  obtain ⟨e1, e2⟩ := inbN (n := 100000) hz (Nat.le_refl _)
  simp only [act, he, acte, e1, e2, if_true, jmp]) k
theorem w_anewa {z : Int} (he : ft m pc = some (39, v, a, b, c, n, ts)) (hz : 0 ≤ z ∧ z < 100000) (k : Wp (d, m, n, L, (.ref (nx G) :: st), al G a z.toNat z.toNat) Q) : Wp (d, m, pc, L, (.int (N z) :: st), G) Q := Wp.next (by
  obtain ⟨e1, e2⟩ := inbN (n := 100000) hz (Nat.le_refl _)
  simp only [act, he, acte, e1, e2, if_true, jmp]) k
theorem w_new (he : ft m pc = some (38, v, a, b, c, n, ts)) (k : Wp (d, m, n, L, (.ref (nx G) :: st), al G a 0 b) Q) : Wp (d, m, pc, L, st, G) Q := Wp.next (by simp only [act, he, acte, jmp]) k
theorem w_throw (he : ft m pc = some (40, v, a, b, c, n, ts)) (hd : 6 ≤ d) (hs : st.length ≤ 8) (k : Q (.threw (nx G), al G a 0 6)) : Wp (d, m, pc, L, st, G) Q := Wp.out (by simp only [act, he, acte]; rw [if_pos ⟨hd, hs⟩]) k
theorem w_objinit {x : Nat} (he : ft m pc = some (44, v, a, b, c, n, ts)) (hs : st.length ≤ 8) (k : Wp (d + 1, m, n, L, st, G) Q) : Wp (d + 1, m, pc, L, (.ref x :: st), G) Q := Wp.next (by simp only [act, he, acte, hs, if_true, jmp]) k
theorem w_getcls {x : Nat} (he : ft m pc = some (45, v, a, b, c, n, ts)) (hs : st.length ≤ 8) (ht : tg G x = 56) (k : Wp (d + 1, m, n, L, (.ref 14 :: st), G) Q) : Wp (d + 1, m, pc, L, (.ref x :: st), G) Q := Wp.next (by simp only [act, he, acte, hs, ht, and_self, if_true, jmp]) k
theorem w_ireturn {x : Int} (he : ft m pc = some (46, v, a, b, c, n, ts)) (hr : ret1 a (.int (N x)) = true) (k : Q (.returned (some (.int (N x))), G)) : Wp (d, m, pc, L, [.int (N x)], G) Q := Wp.out (by simp only [act, he, acte, hr, if_true]) k
theorem w_xreturn {x : Value} (he : ft m pc = some (46, v, a, b, c, n, ts)) (hr : ret1 a x = true) (k : Q (.returned (some x), G)) : Wp (d, m, pc, L, [x], G) Q := Wp.out (by simp only [act, he, acte, hr, if_true]) k
theorem w_return (he : ft m pc = some (47, v, a, b, c, n, ts)) (k : Q (.returned none, G)) : Wp (d, m, pc, L, [], G) Q := Wp.out (by simp only [act, he, acte]) k
theorem w_castN (he : ft m pc = some (48, v, a, b, c, n, ts)) (k : Wp (d, m, n, L, (.null :: st), G) Q) : Wp (d, m, pc, L, (.null :: st), G) Q := Wp.next (by simp only [act, he, acte, jmp]) k
theorem w_cast {x : Nat} (he : ft m pc = some (48, v, a, b, c, n, ts)) (ht : isof (tg G x) a = true) (k : Wp (d, m, n, L, (.ref x :: st), G) Q) : Wp (d, m, pc, L, (.ref x :: st), G) Q := Wp.next (by simp only [act, he, acte, jmp, ht, if_true]) k
theorem w_inst {x : Nat} (he : ft m pc = some (49, v, a, b, c, n, ts)) (ht : 9 ≤ tg G x ∧ tg G x ≤ 19) (k : Wp (d, m, n, L, (.int (if isof (tg G x) a = true then 1 else 0) :: st), G) Q) : Wp (d, m, pc, L, (.ref x :: st), G) Q := Wp.next (by simp only [act, he, acte, jmp, ht, and_self, if_true]) k
theorem w_grid (he : ft m pc = some (50, v, a, b, c, n, ts)) (k : Wp (d, m, n, L, (.ref (nx G) :: st), grid G) Q) : Wp (d, m, pc, L, (.int (N 5) :: .int (N 13) :: st), G) Q := Wp.next (by
  have e : N 13 = 13 ∧ N 5 = 5 := ⟨rfl, rfl⟩
  simp only [act, he, acte]
  rw [if_pos e]
  rfl) k
theorem w_opq (he : ft m pc = some (51, v, a, b, c, n, ts)) (k : Wp (d, m, n, L, (.retAddr 0 :: st), G) Q) : Wp (d, m, pc, L, st, G) Q := Wp.next (by simp only [act, he, acte, jmp]) k
theorem w_imin {x y : Int} (he : ft m pc = some (52, v, 0, b, c, n, ts)) (hs : st.length ≤ 8) (k : Wp (d + 1, m, n, L, (.int (N (if wr y < wr x then y else x)) :: st), G) Q) : Wp (d + 1, m, pc, L, (.int (N y) :: .int (N x) :: st), G) Q := Wp.next (by
  simp only [act, he, acte, hs, if_true, N_lt]
  split <;> rfl) k
theorem w_imax {x y : Int} (he : ft m pc = some (52, v, 1, b, c, n, ts)) (hs : st.length ≤ 8) (k : Wp (d + 1, m, n, L, (.int (N (if wr x < wr y then y else x)) :: st), G) Q) : Wp (d + 1, m, pc, L, (.int (N y) :: .int (N x) :: st), G) Q := Wp.next (by
  simp only [act, he, acte, hs, if_true, N_lt, Nat.one_ne_zero, if_false]
  split <;> rfl) k
theorem w_acopy {x y : Nat} {i j q : Int} (he : ft m pc = some (43, v, a, b, c, n, ts)) (hs : st.length ≤ 8) (ht : tg G x = 52 ∧ tg G y = 52 ∨ (tg G x = 56 ∨ tg G x = 63) ∧ tg G y = 56) (hxy : ¬ x = y) (hq : 0 ≤ q ∧ 0 ≤ i ∧ 0 ≤ j ∧ i + q ≤ ln G x ∧ j + q ≤ ln G y) (hb : ln G x ≤ 100000 ∧ ln G y ≤ 100000) (k : Wp (d + 1, m, n, L, st, cpy G x i.toNat y j.toNat q.toNat) Q) : Wp (d + 1, m, pc, L, (.int (N q) :: .int (N j) :: .ref y :: .int (N i) :: .ref x :: st), G) Q := Wp.next (by
  have e1 : (N q).toInt = q := wr_id (by omega) (by omega)
  have e2 : (N i).toInt = i := wr_id (by omega) (by omega)
  have e3 : (N j).toInt = j := wr_id (by omega) (by omega)
  have f1 : (N q).toNatClampNeg = q.toNat := congrArg Int.toNat e1
  have f2 : (N i).toNatClampNeg = i.toNat := congrArg Int.toNat e2
  have f3 : (N j).toNatClampNeg = j.toNat := congrArg Int.toNat e3
  have h4 : asrt (tg G x) = asrt (tg G y) := by rcases ht with ⟨h1, h2⟩ | ⟨h1 | h1, h2⟩ <;> rw [h1, h2] <;> rfl
  simp only [act, he, acte, e1, e2, e3, f1, f2, f3]
  rw [if_pos ⟨hs, h4, ht, hxy, hq⟩]
  rfl) k
end rules
/-! contracts' ends -/
def RI (P : Int → mG → Prop) : mR → Prop := fun r => ∃ z, r.1 = .returned (some (.int (N z))) ∧ P z r.2
def RV (P : mG → Prop) : mR → Prop := fun r => r.1 = .returned none ∧ P r.2
def RW (P : Value → mG → Prop) : mR → Prop := fun r => ∃ w, r.1 = .returned (some w) ∧ P w r.2
/-- an end, or an exception of tag t with the heap -/
def RX (R : mR → Prop) (X : Nat → mG → Prop) : mR → Prop := fun r => R r ∨ ∃ y, r.1 = .threw y ∧ X (tg r.2 y) r.2
section calls
variable {d m pc a c n : Nat} {v : Int32} {ts : List Nat} {L : mL} {st : List Value} {G : mG} {Q : mR → Prop}
/-- may this receiver be called at this tag -/
def okr (G : mG) (c : Nat) : List Value → Prop
  | .ref x :: _ => c = 0 ∨ c = 99 ∨ tg G x = c
  | _ => c = 0
theorem okr_rcv {G : mG} {c : Nat} {vs : List Value} (h : okr G c vs) : c = 0 ∨ rcv G c vs = true := by
  unfold okr at h
  split at h
  · rcases h with h | h | h
    · exact Or.inl h
    · subst h; exact Or.inr rfl
    · right; unfold rcv; simp [h]
  · exact Or.inl h
theorem w_callI1 {P : Int → mG → Prop} {x0 : Value} (he : ft m pc = some (41, v, a, 1, c, n, ts)) (hs : st.length ≤ 8) (hr : okr G c [x0]) (hl : (ents [x0]).length ≤ mMax a) (hc : Wp (d, a, 0, ent (mMax a) [x0], [], G) (RI P)) (k : ∀ z G', P z G' → Wp (d + 1, m, n, L, .int (N z) :: st, G') Q) : Wp (d + 1, m, pc, L, x0 :: st, G) Q := by
  refine Wp.call (y := (d, a, 0, ent (mMax a) [x0], [], G)) ?_ hc (fun r1 h1 => ?_)
  · simp only [act, he, acte]
    rw [if_pos]
    · rfl
    · exact ⟨by simp, by simpa using hs, okr_rcv hr, hl⟩
  obtain ⟨z, e1, h2⟩ := h1
  refine Or.inl ⟨_, ?_, k z r1.2 h2⟩
  simp only [aft, he, e1, List.drop_succ_cons, List.drop_zero]
theorem w_callXI1 {P : Int → mG → Prop} {X : Nat → mG → Prop} {x0 : Value} (he : ft m pc = some (41, v, a, 1, c, n, ts)) (hs : st.length ≤ 8) (hr : okr G c [x0]) (hl : (ents [x0]).length ≤ mMax a) (hc : Wp (d, a, 0, ent (mMax a) [x0], [], G) (RX (RI P) X)) (k : ∀ z G', P z G' → Wp (d + 1, m, n, L, .int (N z) :: st, G') Q)
    (kx : ∀ y G', X (tg G' y) G' → match hnd (mHnd m) pc (tg G' y) with
      | some t => Wp (d + 1, m, t, L, [.ref y], G') Q
      | none => Q (.threw y, G')) : Wp (d + 1, m, pc, L, x0 :: st, G) Q := by
  refine Wp.call (y := (d, a, 0, ent (mMax a) [x0], [], G)) ?_ hc (fun r1 h1 => ?_)
  · simp only [act, he, acte]
    rw [if_pos]
    · rfl
    · exact ⟨by simp, by simpa using hs, okr_rcv hr, hl⟩
  rcases h1 with h1 | ⟨y, e1, h2⟩
  · obtain ⟨z, e1, h2⟩ := h1
    refine Or.inl ⟨_, ?_, k z r1.2 h2⟩
    simp only [aft, he, e1, List.drop_succ_cons, List.drop_zero]
  · have h3 := kx y r1.2 h2
    cases hh : hnd (mHnd m) pc (tg r1.2 y) with
    | some t =>
      rw [hh] at h3
      exact Or.inl ⟨_, by simp only [aft, he, e1, hh], h3⟩
    | none =>
      rw [hh] at h3
      refine Or.inr ⟨by simp only [aft, he, e1, hh], ?_⟩
      rw [← e1] at h3
      exact h3
theorem w_callV1 {P : mG → Prop} {x0 : Value} (he : ft m pc = some (41, v, a, 1, c, n, ts)) (hs : st.length ≤ 8) (hr : okr G c [x0]) (hl : (ents [x0]).length ≤ mMax a) (hc : Wp (d, a, 0, ent (mMax a) [x0], [], G) (RV P)) (k : ∀ G', P G' → Wp (d + 1, m, n, L, st, G') Q) : Wp (d + 1, m, pc, L, x0 :: st, G) Q := by
  refine Wp.call (y := (d, a, 0, ent (mMax a) [x0], [], G)) ?_ hc (fun r1 h1 => ?_)
  · simp only [act, he, acte]
    rw [if_pos]
    · rfl
    · exact ⟨by simp, by simpa using hs, okr_rcv hr, hl⟩
  obtain ⟨e1, h2⟩ := h1
  refine Or.inl ⟨_, ?_, k r1.2 h2⟩
  simp only [aft, he, e1, List.drop_succ_cons, List.drop_zero]
theorem w_callXV1 {P : mG → Prop} {X : Nat → mG → Prop} {x0 : Value} (he : ft m pc = some (41, v, a, 1, c, n, ts)) (hs : st.length ≤ 8) (hr : okr G c [x0]) (hl : (ents [x0]).length ≤ mMax a) (hc : Wp (d, a, 0, ent (mMax a) [x0], [], G) (RX (RV P) X)) (k : ∀ G', P G' → Wp (d + 1, m, n, L, st, G') Q)
    (kx : ∀ y G', X (tg G' y) G' → match hnd (mHnd m) pc (tg G' y) with
      | some t => Wp (d + 1, m, t, L, [.ref y], G') Q
      | none => Q (.threw y, G')) : Wp (d + 1, m, pc, L, x0 :: st, G) Q := by
  refine Wp.call (y := (d, a, 0, ent (mMax a) [x0], [], G)) ?_ hc (fun r1 h1 => ?_)
  · simp only [act, he, acte]
    rw [if_pos]
    · rfl
    · exact ⟨by simp, by simpa using hs, okr_rcv hr, hl⟩
  rcases h1 with h1 | ⟨y, e1, h2⟩
  · obtain ⟨e1, h2⟩ := h1
    refine Or.inl ⟨_, ?_, k r1.2 h2⟩
    simp only [aft, he, e1, List.drop_succ_cons, List.drop_zero]
  · have h3 := kx y r1.2 h2
    cases hh : hnd (mHnd m) pc (tg r1.2 y) with
    | some t =>
      rw [hh] at h3
      exact Or.inl ⟨_, by simp only [aft, he, e1, hh], h3⟩
    | none =>
      rw [hh] at h3
      refine Or.inr ⟨by simp only [aft, he, e1, hh], ?_⟩
      rw [← e1] at h3
      exact h3
theorem w_callW1 {P : Value → mG → Prop} {x0 : Value} (he : ft m pc = some (41, v, a, 1, c, n, ts)) (hs : st.length ≤ 8) (hr : okr G c [x0]) (hl : (ents [x0]).length ≤ mMax a) (hc : Wp (d, a, 0, ent (mMax a) [x0], [], G) (RW P)) (k : ∀ w G', P w G' → Wp (d + 1, m, n, L, w :: st, G') Q) : Wp (d + 1, m, pc, L, x0 :: st, G) Q := by
  refine Wp.call (y := (d, a, 0, ent (mMax a) [x0], [], G)) ?_ hc (fun r1 h1 => ?_)
  · simp only [act, he, acte]
    rw [if_pos]
    · rfl
    · exact ⟨by simp, by simpa using hs, okr_rcv hr, hl⟩
  obtain ⟨z, e1, h2⟩ := h1
  refine Or.inl ⟨_, ?_, k z r1.2 h2⟩
  simp only [aft, he, e1, List.drop_succ_cons, List.drop_zero]
theorem w_callXW1 {P : Value → mG → Prop} {X : Nat → mG → Prop} {x0 : Value} (he : ft m pc = some (41, v, a, 1, c, n, ts)) (hs : st.length ≤ 8) (hr : okr G c [x0]) (hl : (ents [x0]).length ≤ mMax a) (hc : Wp (d, a, 0, ent (mMax a) [x0], [], G) (RX (RW P) X)) (k : ∀ w G', P w G' → Wp (d + 1, m, n, L, w :: st, G') Q)
    (kx : ∀ y G', X (tg G' y) G' → match hnd (mHnd m) pc (tg G' y) with
      | some t => Wp (d + 1, m, t, L, [.ref y], G') Q
      | none => Q (.threw y, G')) : Wp (d + 1, m, pc, L, x0 :: st, G) Q := by
  refine Wp.call (y := (d, a, 0, ent (mMax a) [x0], [], G)) ?_ hc (fun r1 h1 => ?_)
  · simp only [act, he, acte]
    rw [if_pos]
    · rfl
    · exact ⟨by simp, by simpa using hs, okr_rcv hr, hl⟩
  rcases h1 with h1 | ⟨y, e1, h2⟩
  · obtain ⟨z, e1, h2⟩ := h1
    refine Or.inl ⟨_, ?_, k z r1.2 h2⟩
    simp only [aft, he, e1, List.drop_succ_cons, List.drop_zero]
  · have h3 := kx y r1.2 h2
    cases hh : hnd (mHnd m) pc (tg r1.2 y) with
    | some t =>
      rw [hh] at h3
      exact Or.inl ⟨_, by simp only [aft, he, e1, hh], h3⟩
    | none =>
      rw [hh] at h3
      refine Or.inr ⟨by simp only [aft, he, e1, hh], ?_⟩
      rw [← e1] at h3
      exact h3
theorem w_callI2 {P : Int → mG → Prop} {x0 x1 : Value} (he : ft m pc = some (41, v, a, 2, c, n, ts)) (hs : st.length ≤ 8) (hr : okr G c [x0, x1]) (hl : (ents [x0, x1]).length ≤ mMax a) (hc : Wp (d, a, 0, ent (mMax a) [x0, x1], [], G) (RI P)) (k : ∀ z G', P z G' → Wp (d + 1, m, n, L, .int (N z) :: st, G') Q) : Wp (d + 1, m, pc, L, x1 :: x0 :: st, G) Q := by
  refine Wp.call (y := (d, a, 0, ent (mMax a) [x0, x1], [], G)) ?_ hc (fun r1 h1 => ?_)
  · simp only [act, he, acte]
    rw [if_pos]
    · rfl
    · exact ⟨by simp, by simpa using hs, okr_rcv hr, hl⟩
  obtain ⟨z, e1, h2⟩ := h1
  refine Or.inl ⟨_, ?_, k z r1.2 h2⟩
  simp only [aft, he, e1, List.drop_succ_cons, List.drop_zero]
theorem w_callXI2 {P : Int → mG → Prop} {X : Nat → mG → Prop} {x0 x1 : Value} (he : ft m pc = some (41, v, a, 2, c, n, ts)) (hs : st.length ≤ 8) (hr : okr G c [x0, x1]) (hl : (ents [x0, x1]).length ≤ mMax a) (hc : Wp (d, a, 0, ent (mMax a) [x0, x1], [], G) (RX (RI P) X)) (k : ∀ z G', P z G' → Wp (d + 1, m, n, L, .int (N z) :: st, G') Q)
    (kx : ∀ y G', X (tg G' y) G' → match hnd (mHnd m) pc (tg G' y) with
      | some t => Wp (d + 1, m, t, L, [.ref y], G') Q
      | none => Q (.threw y, G')) : Wp (d + 1, m, pc, L, x1 :: x0 :: st, G) Q := by
  refine Wp.call (y := (d, a, 0, ent (mMax a) [x0, x1], [], G)) ?_ hc (fun r1 h1 => ?_)
  · simp only [act, he, acte]
    rw [if_pos]
    · rfl
    · exact ⟨by simp, by simpa using hs, okr_rcv hr, hl⟩
  rcases h1 with h1 | ⟨y, e1, h2⟩
  · obtain ⟨z, e1, h2⟩ := h1
    refine Or.inl ⟨_, ?_, k z r1.2 h2⟩
    simp only [aft, he, e1, List.drop_succ_cons, List.drop_zero]
  · have h3 := kx y r1.2 h2
    cases hh : hnd (mHnd m) pc (tg r1.2 y) with
    | some t =>
      rw [hh] at h3
      exact Or.inl ⟨_, by simp only [aft, he, e1, hh], h3⟩
    | none =>
      rw [hh] at h3
      refine Or.inr ⟨by simp only [aft, he, e1, hh], ?_⟩
      rw [← e1] at h3
      exact h3
theorem w_callV2 {P : mG → Prop} {x0 x1 : Value} (he : ft m pc = some (41, v, a, 2, c, n, ts)) (hs : st.length ≤ 8) (hr : okr G c [x0, x1]) (hl : (ents [x0, x1]).length ≤ mMax a) (hc : Wp (d, a, 0, ent (mMax a) [x0, x1], [], G) (RV P)) (k : ∀ G', P G' → Wp (d + 1, m, n, L, st, G') Q) : Wp (d + 1, m, pc, L, x1 :: x0 :: st, G) Q := by
  refine Wp.call (y := (d, a, 0, ent (mMax a) [x0, x1], [], G)) ?_ hc (fun r1 h1 => ?_)
  · simp only [act, he, acte]
    rw [if_pos]
    · rfl
    · exact ⟨by simp, by simpa using hs, okr_rcv hr, hl⟩
  obtain ⟨e1, h2⟩ := h1
  refine Or.inl ⟨_, ?_, k r1.2 h2⟩
  simp only [aft, he, e1, List.drop_succ_cons, List.drop_zero]
theorem w_callXV2 {P : mG → Prop} {X : Nat → mG → Prop} {x0 x1 : Value} (he : ft m pc = some (41, v, a, 2, c, n, ts)) (hs : st.length ≤ 8) (hr : okr G c [x0, x1]) (hl : (ents [x0, x1]).length ≤ mMax a) (hc : Wp (d, a, 0, ent (mMax a) [x0, x1], [], G) (RX (RV P) X)) (k : ∀ G', P G' → Wp (d + 1, m, n, L, st, G') Q)
    (kx : ∀ y G', X (tg G' y) G' → match hnd (mHnd m) pc (tg G' y) with
      | some t => Wp (d + 1, m, t, L, [.ref y], G') Q
      | none => Q (.threw y, G')) : Wp (d + 1, m, pc, L, x1 :: x0 :: st, G) Q := by
  refine Wp.call (y := (d, a, 0, ent (mMax a) [x0, x1], [], G)) ?_ hc (fun r1 h1 => ?_)
  · simp only [act, he, acte]
    rw [if_pos]
    · rfl
    · exact ⟨by simp, by simpa using hs, okr_rcv hr, hl⟩
  rcases h1 with h1 | ⟨y, e1, h2⟩
  · obtain ⟨e1, h2⟩ := h1
    refine Or.inl ⟨_, ?_, k r1.2 h2⟩
    simp only [aft, he, e1, List.drop_succ_cons, List.drop_zero]
  · have h3 := kx y r1.2 h2
    cases hh : hnd (mHnd m) pc (tg r1.2 y) with
    | some t =>
      rw [hh] at h3
      exact Or.inl ⟨_, by simp only [aft, he, e1, hh], h3⟩
    | none =>
      rw [hh] at h3
      refine Or.inr ⟨by simp only [aft, he, e1, hh], ?_⟩
      rw [← e1] at h3
      exact h3
theorem w_callW2 {P : Value → mG → Prop} {x0 x1 : Value} (he : ft m pc = some (41, v, a, 2, c, n, ts)) (hs : st.length ≤ 8) (hr : okr G c [x0, x1]) (hl : (ents [x0, x1]).length ≤ mMax a) (hc : Wp (d, a, 0, ent (mMax a) [x0, x1], [], G) (RW P)) (k : ∀ w G', P w G' → Wp (d + 1, m, n, L, w :: st, G') Q) : Wp (d + 1, m, pc, L, x1 :: x0 :: st, G) Q := by
  refine Wp.call (y := (d, a, 0, ent (mMax a) [x0, x1], [], G)) ?_ hc (fun r1 h1 => ?_)
  · simp only [act, he, acte]
    rw [if_pos]
    · rfl
    · exact ⟨by simp, by simpa using hs, okr_rcv hr, hl⟩
  obtain ⟨z, e1, h2⟩ := h1
  refine Or.inl ⟨_, ?_, k z r1.2 h2⟩
  simp only [aft, he, e1, List.drop_succ_cons, List.drop_zero]
theorem w_callXW2 {P : Value → mG → Prop} {X : Nat → mG → Prop} {x0 x1 : Value} (he : ft m pc = some (41, v, a, 2, c, n, ts)) (hs : st.length ≤ 8) (hr : okr G c [x0, x1]) (hl : (ents [x0, x1]).length ≤ mMax a) (hc : Wp (d, a, 0, ent (mMax a) [x0, x1], [], G) (RX (RW P) X)) (k : ∀ w G', P w G' → Wp (d + 1, m, n, L, w :: st, G') Q)
    (kx : ∀ y G', X (tg G' y) G' → match hnd (mHnd m) pc (tg G' y) with
      | some t => Wp (d + 1, m, t, L, [.ref y], G') Q
      | none => Q (.threw y, G')) : Wp (d + 1, m, pc, L, x1 :: x0 :: st, G) Q := by
  refine Wp.call (y := (d, a, 0, ent (mMax a) [x0, x1], [], G)) ?_ hc (fun r1 h1 => ?_)
  · simp only [act, he, acte]
    rw [if_pos]
    · rfl
    · exact ⟨by simp, by simpa using hs, okr_rcv hr, hl⟩
  rcases h1 with h1 | ⟨y, e1, h2⟩
  · obtain ⟨z, e1, h2⟩ := h1
    refine Or.inl ⟨_, ?_, k z r1.2 h2⟩
    simp only [aft, he, e1, List.drop_succ_cons, List.drop_zero]
  · have h3 := kx y r1.2 h2
    cases hh : hnd (mHnd m) pc (tg r1.2 y) with
    | some t =>
      rw [hh] at h3
      exact Or.inl ⟨_, by simp only [aft, he, e1, hh], h3⟩
    | none =>
      rw [hh] at h3
      refine Or.inr ⟨by simp only [aft, he, e1, hh], ?_⟩
      rw [← e1] at h3
      exact h3
theorem w_callI3 {P : Int → mG → Prop} {x0 x1 x2 : Value} (he : ft m pc = some (41, v, a, 3, c, n, ts)) (hs : st.length ≤ 8) (hr : okr G c [x0, x1, x2]) (hl : (ents [x0, x1, x2]).length ≤ mMax a) (hc : Wp (d, a, 0, ent (mMax a) [x0, x1, x2], [], G) (RI P)) (k : ∀ z G', P z G' → Wp (d + 1, m, n, L, .int (N z) :: st, G') Q) : Wp (d + 1, m, pc, L, x2 :: x1 :: x0 :: st, G) Q := by
  refine Wp.call (y := (d, a, 0, ent (mMax a) [x0, x1, x2], [], G)) ?_ hc (fun r1 h1 => ?_)
  · simp only [act, he, acte]
    rw [if_pos]
    · rfl
    · exact ⟨by simp, by simpa using hs, okr_rcv hr, hl⟩
  obtain ⟨z, e1, h2⟩ := h1
  refine Or.inl ⟨_, ?_, k z r1.2 h2⟩
  simp only [aft, he, e1, List.drop_succ_cons, List.drop_zero]
theorem w_callXI3 {P : Int → mG → Prop} {X : Nat → mG → Prop} {x0 x1 x2 : Value} (he : ft m pc = some (41, v, a, 3, c, n, ts)) (hs : st.length ≤ 8) (hr : okr G c [x0, x1, x2]) (hl : (ents [x0, x1, x2]).length ≤ mMax a) (hc : Wp (d, a, 0, ent (mMax a) [x0, x1, x2], [], G) (RX (RI P) X)) (k : ∀ z G', P z G' → Wp (d + 1, m, n, L, .int (N z) :: st, G') Q)
    (kx : ∀ y G', X (tg G' y) G' → match hnd (mHnd m) pc (tg G' y) with
      | some t => Wp (d + 1, m, t, L, [.ref y], G') Q
      | none => Q (.threw y, G')) : Wp (d + 1, m, pc, L, x2 :: x1 :: x0 :: st, G) Q := by
  refine Wp.call (y := (d, a, 0, ent (mMax a) [x0, x1, x2], [], G)) ?_ hc (fun r1 h1 => ?_)
  · simp only [act, he, acte]
    rw [if_pos]
    · rfl
    · exact ⟨by simp, by simpa using hs, okr_rcv hr, hl⟩
  rcases h1 with h1 | ⟨y, e1, h2⟩
  · obtain ⟨z, e1, h2⟩ := h1
    refine Or.inl ⟨_, ?_, k z r1.2 h2⟩
    simp only [aft, he, e1, List.drop_succ_cons, List.drop_zero]
  · have h3 := kx y r1.2 h2
    cases hh : hnd (mHnd m) pc (tg r1.2 y) with
    | some t =>
      rw [hh] at h3
      exact Or.inl ⟨_, by simp only [aft, he, e1, hh], h3⟩
    | none =>
      rw [hh] at h3
      refine Or.inr ⟨by simp only [aft, he, e1, hh], ?_⟩
      rw [← e1] at h3
      exact h3
theorem w_callV3 {P : mG → Prop} {x0 x1 x2 : Value} (he : ft m pc = some (41, v, a, 3, c, n, ts)) (hs : st.length ≤ 8) (hr : okr G c [x0, x1, x2]) (hl : (ents [x0, x1, x2]).length ≤ mMax a) (hc : Wp (d, a, 0, ent (mMax a) [x0, x1, x2], [], G) (RV P)) (k : ∀ G', P G' → Wp (d + 1, m, n, L, st, G') Q) : Wp (d + 1, m, pc, L, x2 :: x1 :: x0 :: st, G) Q := by
  refine Wp.call (y := (d, a, 0, ent (mMax a) [x0, x1, x2], [], G)) ?_ hc (fun r1 h1 => ?_)
  · simp only [act, he, acte]
    rw [if_pos]
    · rfl
    · exact ⟨by simp, by simpa using hs, okr_rcv hr, hl⟩
  obtain ⟨e1, h2⟩ := h1
  refine Or.inl ⟨_, ?_, k r1.2 h2⟩
  simp only [aft, he, e1, List.drop_succ_cons, List.drop_zero]
theorem w_callXV3 {P : mG → Prop} {X : Nat → mG → Prop} {x0 x1 x2 : Value} (he : ft m pc = some (41, v, a, 3, c, n, ts)) (hs : st.length ≤ 8) (hr : okr G c [x0, x1, x2]) (hl : (ents [x0, x1, x2]).length ≤ mMax a) (hc : Wp (d, a, 0, ent (mMax a) [x0, x1, x2], [], G) (RX (RV P) X)) (k : ∀ G', P G' → Wp (d + 1, m, n, L, st, G') Q)
    (kx : ∀ y G', X (tg G' y) G' → match hnd (mHnd m) pc (tg G' y) with
      | some t => Wp (d + 1, m, t, L, [.ref y], G') Q
      | none => Q (.threw y, G')) : Wp (d + 1, m, pc, L, x2 :: x1 :: x0 :: st, G) Q := by
  refine Wp.call (y := (d, a, 0, ent (mMax a) [x0, x1, x2], [], G)) ?_ hc (fun r1 h1 => ?_)
  · simp only [act, he, acte]
    rw [if_pos]
    · rfl
    · exact ⟨by simp, by simpa using hs, okr_rcv hr, hl⟩
  rcases h1 with h1 | ⟨y, e1, h2⟩
  · obtain ⟨e1, h2⟩ := h1
    refine Or.inl ⟨_, ?_, k r1.2 h2⟩
    simp only [aft, he, e1, List.drop_succ_cons, List.drop_zero]
  · have h3 := kx y r1.2 h2
    cases hh : hnd (mHnd m) pc (tg r1.2 y) with
    | some t =>
      rw [hh] at h3
      exact Or.inl ⟨_, by simp only [aft, he, e1, hh], h3⟩
    | none =>
      rw [hh] at h3
      refine Or.inr ⟨by simp only [aft, he, e1, hh], ?_⟩
      rw [← e1] at h3
      exact h3
theorem w_callW3 {P : Value → mG → Prop} {x0 x1 x2 : Value} (he : ft m pc = some (41, v, a, 3, c, n, ts)) (hs : st.length ≤ 8) (hr : okr G c [x0, x1, x2]) (hl : (ents [x0, x1, x2]).length ≤ mMax a) (hc : Wp (d, a, 0, ent (mMax a) [x0, x1, x2], [], G) (RW P)) (k : ∀ w G', P w G' → Wp (d + 1, m, n, L, w :: st, G') Q) : Wp (d + 1, m, pc, L, x2 :: x1 :: x0 :: st, G) Q := by
  refine Wp.call (y := (d, a, 0, ent (mMax a) [x0, x1, x2], [], G)) ?_ hc (fun r1 h1 => ?_)
  · simp only [act, he, acte]
    rw [if_pos]
    · rfl
    · exact ⟨by simp, by simpa using hs, okr_rcv hr, hl⟩
  obtain ⟨z, e1, h2⟩ := h1
  refine Or.inl ⟨_, ?_, k z r1.2 h2⟩
  simp only [aft, he, e1, List.drop_succ_cons, List.drop_zero]
theorem w_callXW3 {P : Value → mG → Prop} {X : Nat → mG → Prop} {x0 x1 x2 : Value} (he : ft m pc = some (41, v, a, 3, c, n, ts)) (hs : st.length ≤ 8) (hr : okr G c [x0, x1, x2]) (hl : (ents [x0, x1, x2]).length ≤ mMax a) (hc : Wp (d, a, 0, ent (mMax a) [x0, x1, x2], [], G) (RX (RW P) X)) (k : ∀ w G', P w G' → Wp (d + 1, m, n, L, w :: st, G') Q)
    (kx : ∀ y G', X (tg G' y) G' → match hnd (mHnd m) pc (tg G' y) with
      | some t => Wp (d + 1, m, t, L, [.ref y], G') Q
      | none => Q (.threw y, G')) : Wp (d + 1, m, pc, L, x2 :: x1 :: x0 :: st, G) Q := by
  refine Wp.call (y := (d, a, 0, ent (mMax a) [x0, x1, x2], [], G)) ?_ hc (fun r1 h1 => ?_)
  · simp only [act, he, acte]
    rw [if_pos]
    · rfl
    · exact ⟨by simp, by simpa using hs, okr_rcv hr, hl⟩
  rcases h1 with h1 | ⟨y, e1, h2⟩
  · obtain ⟨z, e1, h2⟩ := h1
    refine Or.inl ⟨_, ?_, k z r1.2 h2⟩
    simp only [aft, he, e1, List.drop_succ_cons, List.drop_zero]
  · have h3 := kx y r1.2 h2
    cases hh : hnd (mHnd m) pc (tg r1.2 y) with
    | some t =>
      rw [hh] at h3
      exact Or.inl ⟨_, by simp only [aft, he, e1, hh], h3⟩
    | none =>
      rw [hh] at h3
      refine Or.inr ⟨by simp only [aft, he, e1, hh], ?_⟩
      rw [← e1] at h3
      exact h3
theorem w_callI4 {P : Int → mG → Prop} {x0 x1 x2 x3 : Value} (he : ft m pc = some (41, v, a, 4, c, n, ts)) (hs : st.length ≤ 8) (hr : okr G c [x0, x1, x2, x3]) (hl : (ents [x0, x1, x2, x3]).length ≤ mMax a) (hc : Wp (d, a, 0, ent (mMax a) [x0, x1, x2, x3], [], G) (RI P)) (k : ∀ z G', P z G' → Wp (d + 1, m, n, L, .int (N z) :: st, G') Q) : Wp (d + 1, m, pc, L, x3 :: x2 :: x1 :: x0 :: st, G) Q := by
  refine Wp.call (y := (d, a, 0, ent (mMax a) [x0, x1, x2, x3], [], G)) ?_ hc (fun r1 h1 => ?_)
  · simp only [act, he, acte]
    rw [if_pos]
    · rfl
    · exact ⟨by simp, by simpa using hs, okr_rcv hr, hl⟩
  obtain ⟨z, e1, h2⟩ := h1
  refine Or.inl ⟨_, ?_, k z r1.2 h2⟩
  simp only [aft, he, e1, List.drop_succ_cons, List.drop_zero]
theorem w_callXI4 {P : Int → mG → Prop} {X : Nat → mG → Prop} {x0 x1 x2 x3 : Value} (he : ft m pc = some (41, v, a, 4, c, n, ts)) (hs : st.length ≤ 8) (hr : okr G c [x0, x1, x2, x3]) (hl : (ents [x0, x1, x2, x3]).length ≤ mMax a) (hc : Wp (d, a, 0, ent (mMax a) [x0, x1, x2, x3], [], G) (RX (RI P) X)) (k : ∀ z G', P z G' → Wp (d + 1, m, n, L, .int (N z) :: st, G') Q)
    (kx : ∀ y G', X (tg G' y) G' → match hnd (mHnd m) pc (tg G' y) with
      | some t => Wp (d + 1, m, t, L, [.ref y], G') Q
      | none => Q (.threw y, G')) : Wp (d + 1, m, pc, L, x3 :: x2 :: x1 :: x0 :: st, G) Q := by
  refine Wp.call (y := (d, a, 0, ent (mMax a) [x0, x1, x2, x3], [], G)) ?_ hc (fun r1 h1 => ?_)
  · simp only [act, he, acte]
    rw [if_pos]
    · rfl
    · exact ⟨by simp, by simpa using hs, okr_rcv hr, hl⟩
  rcases h1 with h1 | ⟨y, e1, h2⟩
  · obtain ⟨z, e1, h2⟩ := h1
    refine Or.inl ⟨_, ?_, k z r1.2 h2⟩
    simp only [aft, he, e1, List.drop_succ_cons, List.drop_zero]
  · have h3 := kx y r1.2 h2
    cases hh : hnd (mHnd m) pc (tg r1.2 y) with
    | some t =>
      rw [hh] at h3
      exact Or.inl ⟨_, by simp only [aft, he, e1, hh], h3⟩
    | none =>
      rw [hh] at h3
      refine Or.inr ⟨by simp only [aft, he, e1, hh], ?_⟩
      rw [← e1] at h3
      exact h3
theorem w_callV4 {P : mG → Prop} {x0 x1 x2 x3 : Value} (he : ft m pc = some (41, v, a, 4, c, n, ts)) (hs : st.length ≤ 8) (hr : okr G c [x0, x1, x2, x3]) (hl : (ents [x0, x1, x2, x3]).length ≤ mMax a) (hc : Wp (d, a, 0, ent (mMax a) [x0, x1, x2, x3], [], G) (RV P)) (k : ∀ G', P G' → Wp (d + 1, m, n, L, st, G') Q) : Wp (d + 1, m, pc, L, x3 :: x2 :: x1 :: x0 :: st, G) Q := by
  refine Wp.call (y := (d, a, 0, ent (mMax a) [x0, x1, x2, x3], [], G)) ?_ hc (fun r1 h1 => ?_)
  · simp only [act, he, acte]
    rw [if_pos]
    · rfl
    · exact ⟨by simp, by simpa using hs, okr_rcv hr, hl⟩
  obtain ⟨e1, h2⟩ := h1
  refine Or.inl ⟨_, ?_, k r1.2 h2⟩
  simp only [aft, he, e1, List.drop_succ_cons, List.drop_zero]
theorem w_callXV4 {P : mG → Prop} {X : Nat → mG → Prop} {x0 x1 x2 x3 : Value} (he : ft m pc = some (41, v, a, 4, c, n, ts)) (hs : st.length ≤ 8) (hr : okr G c [x0, x1, x2, x3]) (hl : (ents [x0, x1, x2, x3]).length ≤ mMax a) (hc : Wp (d, a, 0, ent (mMax a) [x0, x1, x2, x3], [], G) (RX (RV P) X)) (k : ∀ G', P G' → Wp (d + 1, m, n, L, st, G') Q)
    (kx : ∀ y G', X (tg G' y) G' → match hnd (mHnd m) pc (tg G' y) with
      | some t => Wp (d + 1, m, t, L, [.ref y], G') Q
      | none => Q (.threw y, G')) : Wp (d + 1, m, pc, L, x3 :: x2 :: x1 :: x0 :: st, G) Q := by
  refine Wp.call (y := (d, a, 0, ent (mMax a) [x0, x1, x2, x3], [], G)) ?_ hc (fun r1 h1 => ?_)
  · simp only [act, he, acte]
    rw [if_pos]
    · rfl
    · exact ⟨by simp, by simpa using hs, okr_rcv hr, hl⟩
  rcases h1 with h1 | ⟨y, e1, h2⟩
  · obtain ⟨e1, h2⟩ := h1
    refine Or.inl ⟨_, ?_, k r1.2 h2⟩
    simp only [aft, he, e1, List.drop_succ_cons, List.drop_zero]
  · have h3 := kx y r1.2 h2
    cases hh : hnd (mHnd m) pc (tg r1.2 y) with
    | some t =>
      rw [hh] at h3
      exact Or.inl ⟨_, by simp only [aft, he, e1, hh], h3⟩
    | none =>
      rw [hh] at h3
      refine Or.inr ⟨by simp only [aft, he, e1, hh], ?_⟩
      rw [← e1] at h3
      exact h3
theorem w_callW4 {P : Value → mG → Prop} {x0 x1 x2 x3 : Value} (he : ft m pc = some (41, v, a, 4, c, n, ts)) (hs : st.length ≤ 8) (hr : okr G c [x0, x1, x2, x3]) (hl : (ents [x0, x1, x2, x3]).length ≤ mMax a) (hc : Wp (d, a, 0, ent (mMax a) [x0, x1, x2, x3], [], G) (RW P)) (k : ∀ w G', P w G' → Wp (d + 1, m, n, L, w :: st, G') Q) : Wp (d + 1, m, pc, L, x3 :: x2 :: x1 :: x0 :: st, G) Q := by
  refine Wp.call (y := (d, a, 0, ent (mMax a) [x0, x1, x2, x3], [], G)) ?_ hc (fun r1 h1 => ?_)
  · simp only [act, he, acte]
    rw [if_pos]
    · rfl
    · exact ⟨by simp, by simpa using hs, okr_rcv hr, hl⟩
  obtain ⟨z, e1, h2⟩ := h1
  refine Or.inl ⟨_, ?_, k z r1.2 h2⟩
  simp only [aft, he, e1, List.drop_succ_cons, List.drop_zero]
theorem w_callXW4 {P : Value → mG → Prop} {X : Nat → mG → Prop} {x0 x1 x2 x3 : Value} (he : ft m pc = some (41, v, a, 4, c, n, ts)) (hs : st.length ≤ 8) (hr : okr G c [x0, x1, x2, x3]) (hl : (ents [x0, x1, x2, x3]).length ≤ mMax a) (hc : Wp (d, a, 0, ent (mMax a) [x0, x1, x2, x3], [], G) (RX (RW P) X)) (k : ∀ w G', P w G' → Wp (d + 1, m, n, L, w :: st, G') Q)
    (kx : ∀ y G', X (tg G' y) G' → match hnd (mHnd m) pc (tg G' y) with
      | some t => Wp (d + 1, m, t, L, [.ref y], G') Q
      | none => Q (.threw y, G')) : Wp (d + 1, m, pc, L, x3 :: x2 :: x1 :: x0 :: st, G) Q := by
  refine Wp.call (y := (d, a, 0, ent (mMax a) [x0, x1, x2, x3], [], G)) ?_ hc (fun r1 h1 => ?_)
  · simp only [act, he, acte]
    rw [if_pos]
    · rfl
    · exact ⟨by simp, by simpa using hs, okr_rcv hr, hl⟩
  rcases h1 with h1 | ⟨y, e1, h2⟩
  · obtain ⟨z, e1, h2⟩ := h1
    refine Or.inl ⟨_, ?_, k z r1.2 h2⟩
    simp only [aft, he, e1, List.drop_succ_cons, List.drop_zero]
  · have h3 := kx y r1.2 h2
    cases hh : hnd (mHnd m) pc (tg r1.2 y) with
    | some t =>
      rw [hh] at h3
      exact Or.inl ⟨_, by simp only [aft, he, e1, hh], h3⟩
    | none =>
      rw [hh] at h3
      refine Or.inr ⟨by simp only [aft, he, e1, hh], ?_⟩
      rw [← e1] at h3
      exact h3
theorem w_callI5 {P : Int → mG → Prop} {x0 x1 x2 x3 x4 : Value} (he : ft m pc = some (41, v, a, 5, c, n, ts)) (hs : st.length ≤ 8) (hr : okr G c [x0, x1, x2, x3, x4]) (hl : (ents [x0, x1, x2, x3, x4]).length ≤ mMax a) (hc : Wp (d, a, 0, ent (mMax a) [x0, x1, x2, x3, x4], [], G) (RI P)) (k : ∀ z G', P z G' → Wp (d + 1, m, n, L, .int (N z) :: st, G') Q) : Wp (d + 1, m, pc, L, x4 :: x3 :: x2 :: x1 :: x0 :: st, G) Q := by
  refine Wp.call (y := (d, a, 0, ent (mMax a) [x0, x1, x2, x3, x4], [], G)) ?_ hc (fun r1 h1 => ?_)
  · simp only [act, he, acte]
    rw [if_pos]
    · rfl
    · exact ⟨by simp, by simpa using hs, okr_rcv hr, hl⟩
  obtain ⟨z, e1, h2⟩ := h1
  refine Or.inl ⟨_, ?_, k z r1.2 h2⟩
  simp only [aft, he, e1, List.drop_succ_cons, List.drop_zero]
theorem w_callXI5 {P : Int → mG → Prop} {X : Nat → mG → Prop} {x0 x1 x2 x3 x4 : Value} (he : ft m pc = some (41, v, a, 5, c, n, ts)) (hs : st.length ≤ 8) (hr : okr G c [x0, x1, x2, x3, x4]) (hl : (ents [x0, x1, x2, x3, x4]).length ≤ mMax a) (hc : Wp (d, a, 0, ent (mMax a) [x0, x1, x2, x3, x4], [], G) (RX (RI P) X)) (k : ∀ z G', P z G' → Wp (d + 1, m, n, L, .int (N z) :: st, G') Q)
    (kx : ∀ y G', X (tg G' y) G' → match hnd (mHnd m) pc (tg G' y) with
      | some t => Wp (d + 1, m, t, L, [.ref y], G') Q
      | none => Q (.threw y, G')) : Wp (d + 1, m, pc, L, x4 :: x3 :: x2 :: x1 :: x0 :: st, G) Q := by
  refine Wp.call (y := (d, a, 0, ent (mMax a) [x0, x1, x2, x3, x4], [], G)) ?_ hc (fun r1 h1 => ?_)
  · simp only [act, he, acte]
    rw [if_pos]
    · rfl
    · exact ⟨by simp, by simpa using hs, okr_rcv hr, hl⟩
  rcases h1 with h1 | ⟨y, e1, h2⟩
  · obtain ⟨z, e1, h2⟩ := h1
    refine Or.inl ⟨_, ?_, k z r1.2 h2⟩
    simp only [aft, he, e1, List.drop_succ_cons, List.drop_zero]
  · have h3 := kx y r1.2 h2
    cases hh : hnd (mHnd m) pc (tg r1.2 y) with
    | some t =>
      rw [hh] at h3
      exact Or.inl ⟨_, by simp only [aft, he, e1, hh], h3⟩
    | none =>
      rw [hh] at h3
      refine Or.inr ⟨by simp only [aft, he, e1, hh], ?_⟩
      rw [← e1] at h3
      exact h3
theorem w_callV5 {P : mG → Prop} {x0 x1 x2 x3 x4 : Value} (he : ft m pc = some (41, v, a, 5, c, n, ts)) (hs : st.length ≤ 8) (hr : okr G c [x0, x1, x2, x3, x4]) (hl : (ents [x0, x1, x2, x3, x4]).length ≤ mMax a) (hc : Wp (d, a, 0, ent (mMax a) [x0, x1, x2, x3, x4], [], G) (RV P)) (k : ∀ G', P G' → Wp (d + 1, m, n, L, st, G') Q) : Wp (d + 1, m, pc, L, x4 :: x3 :: x2 :: x1 :: x0 :: st, G) Q := by
  refine Wp.call (y := (d, a, 0, ent (mMax a) [x0, x1, x2, x3, x4], [], G)) ?_ hc (fun r1 h1 => ?_)
  · simp only [act, he, acte]
    rw [if_pos]
    · rfl
    · exact ⟨by simp, by simpa using hs, okr_rcv hr, hl⟩
  obtain ⟨e1, h2⟩ := h1
  refine Or.inl ⟨_, ?_, k r1.2 h2⟩
  simp only [aft, he, e1, List.drop_succ_cons, List.drop_zero]
theorem w_callXV5 {P : mG → Prop} {X : Nat → mG → Prop} {x0 x1 x2 x3 x4 : Value} (he : ft m pc = some (41, v, a, 5, c, n, ts)) (hs : st.length ≤ 8) (hr : okr G c [x0, x1, x2, x3, x4]) (hl : (ents [x0, x1, x2, x3, x4]).length ≤ mMax a) (hc : Wp (d, a, 0, ent (mMax a) [x0, x1, x2, x3, x4], [], G) (RX (RV P) X)) (k : ∀ G', P G' → Wp (d + 1, m, n, L, st, G') Q)
    (kx : ∀ y G', X (tg G' y) G' → match hnd (mHnd m) pc (tg G' y) with
      | some t => Wp (d + 1, m, t, L, [.ref y], G') Q
      | none => Q (.threw y, G')) : Wp (d + 1, m, pc, L, x4 :: x3 :: x2 :: x1 :: x0 :: st, G) Q := by
  refine Wp.call (y := (d, a, 0, ent (mMax a) [x0, x1, x2, x3, x4], [], G)) ?_ hc (fun r1 h1 => ?_)
  · simp only [act, he, acte]
    rw [if_pos]
    · rfl
    · exact ⟨by simp, by simpa using hs, okr_rcv hr, hl⟩
  rcases h1 with h1 | ⟨y, e1, h2⟩
  · obtain ⟨e1, h2⟩ := h1
    refine Or.inl ⟨_, ?_, k r1.2 h2⟩
    simp only [aft, he, e1, List.drop_succ_cons, List.drop_zero]
  · have h3 := kx y r1.2 h2
    cases hh : hnd (mHnd m) pc (tg r1.2 y) with
    | some t =>
      rw [hh] at h3
      exact Or.inl ⟨_, by simp only [aft, he, e1, hh], h3⟩
    | none =>
      rw [hh] at h3
      refine Or.inr ⟨by simp only [aft, he, e1, hh], ?_⟩
      rw [← e1] at h3
      exact h3
theorem w_callW5 {P : Value → mG → Prop} {x0 x1 x2 x3 x4 : Value} (he : ft m pc = some (41, v, a, 5, c, n, ts)) (hs : st.length ≤ 8) (hr : okr G c [x0, x1, x2, x3, x4]) (hl : (ents [x0, x1, x2, x3, x4]).length ≤ mMax a) (hc : Wp (d, a, 0, ent (mMax a) [x0, x1, x2, x3, x4], [], G) (RW P)) (k : ∀ w G', P w G' → Wp (d + 1, m, n, L, w :: st, G') Q) : Wp (d + 1, m, pc, L, x4 :: x3 :: x2 :: x1 :: x0 :: st, G) Q := by
  refine Wp.call (y := (d, a, 0, ent (mMax a) [x0, x1, x2, x3, x4], [], G)) ?_ hc (fun r1 h1 => ?_)
  · simp only [act, he, acte]
    rw [if_pos]
    · rfl
    · exact ⟨by simp, by simpa using hs, okr_rcv hr, hl⟩
  obtain ⟨z, e1, h2⟩ := h1
  refine Or.inl ⟨_, ?_, k z r1.2 h2⟩
  simp only [aft, he, e1, List.drop_succ_cons, List.drop_zero]
theorem w_callXW5 {P : Value → mG → Prop} {X : Nat → mG → Prop} {x0 x1 x2 x3 x4 : Value} (he : ft m pc = some (41, v, a, 5, c, n, ts)) (hs : st.length ≤ 8) (hr : okr G c [x0, x1, x2, x3, x4]) (hl : (ents [x0, x1, x2, x3, x4]).length ≤ mMax a) (hc : Wp (d, a, 0, ent (mMax a) [x0, x1, x2, x3, x4], [], G) (RX (RW P) X)) (k : ∀ w G', P w G' → Wp (d + 1, m, n, L, w :: st, G') Q)
    (kx : ∀ y G', X (tg G' y) G' → match hnd (mHnd m) pc (tg G' y) with
      | some t => Wp (d + 1, m, t, L, [.ref y], G') Q
      | none => Q (.threw y, G')) : Wp (d + 1, m, pc, L, x4 :: x3 :: x2 :: x1 :: x0 :: st, G) Q := by
  refine Wp.call (y := (d, a, 0, ent (mMax a) [x0, x1, x2, x3, x4], [], G)) ?_ hc (fun r1 h1 => ?_)
  · simp only [act, he, acte]
    rw [if_pos]
    · rfl
    · exact ⟨by simp, by simpa using hs, okr_rcv hr, hl⟩
  rcases h1 with h1 | ⟨y, e1, h2⟩
  · obtain ⟨z, e1, h2⟩ := h1
    refine Or.inl ⟨_, ?_, k z r1.2 h2⟩
    simp only [aft, he, e1, List.drop_succ_cons, List.drop_zero]
  · have h3 := kx y r1.2 h2
    cases hh : hnd (mHnd m) pc (tg r1.2 y) with
    | some t =>
      rw [hh] at h3
      exact Or.inl ⟨_, by simp only [aft, he, e1, hh], h3⟩
    | none =>
      rw [hh] at h3
      refine Or.inr ⟨by simp only [aft, he, e1, hh], ?_⟩
      rw [← e1] at h3
      exact h3
theorem w_callI6 {P : Int → mG → Prop} {x0 x1 x2 x3 x4 x5 : Value} (he : ft m pc = some (41, v, a, 6, c, n, ts)) (hs : st.length ≤ 8) (hr : okr G c [x0, x1, x2, x3, x4, x5]) (hl : (ents [x0, x1, x2, x3, x4, x5]).length ≤ mMax a) (hc : Wp (d, a, 0, ent (mMax a) [x0, x1, x2, x3, x4, x5], [], G) (RI P)) (k : ∀ z G', P z G' → Wp (d + 1, m, n, L, .int (N z) :: st, G') Q) : Wp (d + 1, m, pc, L, x5 :: x4 :: x3 :: x2 :: x1 :: x0 :: st, G) Q := by
  refine Wp.call (y := (d, a, 0, ent (mMax a) [x0, x1, x2, x3, x4, x5], [], G)) ?_ hc (fun r1 h1 => ?_)
  · simp only [act, he, acte]
    rw [if_pos]
    · rfl
    · exact ⟨by simp, by simpa using hs, okr_rcv hr, hl⟩
  obtain ⟨z, e1, h2⟩ := h1
  refine Or.inl ⟨_, ?_, k z r1.2 h2⟩
  simp only [aft, he, e1, List.drop_succ_cons, List.drop_zero]
theorem w_callXI6 {P : Int → mG → Prop} {X : Nat → mG → Prop} {x0 x1 x2 x3 x4 x5 : Value} (he : ft m pc = some (41, v, a, 6, c, n, ts)) (hs : st.length ≤ 8) (hr : okr G c [x0, x1, x2, x3, x4, x5]) (hl : (ents [x0, x1, x2, x3, x4, x5]).length ≤ mMax a) (hc : Wp (d, a, 0, ent (mMax a) [x0, x1, x2, x3, x4, x5], [], G) (RX (RI P) X)) (k : ∀ z G', P z G' → Wp (d + 1, m, n, L, .int (N z) :: st, G') Q)
    (kx : ∀ y G', X (tg G' y) G' → match hnd (mHnd m) pc (tg G' y) with
      | some t => Wp (d + 1, m, t, L, [.ref y], G') Q
      | none => Q (.threw y, G')) : Wp (d + 1, m, pc, L, x5 :: x4 :: x3 :: x2 :: x1 :: x0 :: st, G) Q := by
  refine Wp.call (y := (d, a, 0, ent (mMax a) [x0, x1, x2, x3, x4, x5], [], G)) ?_ hc (fun r1 h1 => ?_)
  · simp only [act, he, acte]
    rw [if_pos]
    · rfl
    · exact ⟨by simp, by simpa using hs, okr_rcv hr, hl⟩
  rcases h1 with h1 | ⟨y, e1, h2⟩
  · obtain ⟨z, e1, h2⟩ := h1
    refine Or.inl ⟨_, ?_, k z r1.2 h2⟩
    simp only [aft, he, e1, List.drop_succ_cons, List.drop_zero]
  · have h3 := kx y r1.2 h2
    cases hh : hnd (mHnd m) pc (tg r1.2 y) with
    | some t =>
      rw [hh] at h3
      exact Or.inl ⟨_, by simp only [aft, he, e1, hh], h3⟩
    | none =>
      rw [hh] at h3
      refine Or.inr ⟨by simp only [aft, he, e1, hh], ?_⟩
      rw [← e1] at h3
      exact h3
theorem w_callV6 {P : mG → Prop} {x0 x1 x2 x3 x4 x5 : Value} (he : ft m pc = some (41, v, a, 6, c, n, ts)) (hs : st.length ≤ 8) (hr : okr G c [x0, x1, x2, x3, x4, x5]) (hl : (ents [x0, x1, x2, x3, x4, x5]).length ≤ mMax a) (hc : Wp (d, a, 0, ent (mMax a) [x0, x1, x2, x3, x4, x5], [], G) (RV P)) (k : ∀ G', P G' → Wp (d + 1, m, n, L, st, G') Q) : Wp (d + 1, m, pc, L, x5 :: x4 :: x3 :: x2 :: x1 :: x0 :: st, G) Q := by
  refine Wp.call (y := (d, a, 0, ent (mMax a) [x0, x1, x2, x3, x4, x5], [], G)) ?_ hc (fun r1 h1 => ?_)
  · simp only [act, he, acte]
    rw [if_pos]
    · rfl
    · exact ⟨by simp, by simpa using hs, okr_rcv hr, hl⟩
  obtain ⟨e1, h2⟩ := h1
  refine Or.inl ⟨_, ?_, k r1.2 h2⟩
  simp only [aft, he, e1, List.drop_succ_cons, List.drop_zero]
theorem w_callXV6 {P : mG → Prop} {X : Nat → mG → Prop} {x0 x1 x2 x3 x4 x5 : Value} (he : ft m pc = some (41, v, a, 6, c, n, ts)) (hs : st.length ≤ 8) (hr : okr G c [x0, x1, x2, x3, x4, x5]) (hl : (ents [x0, x1, x2, x3, x4, x5]).length ≤ mMax a) (hc : Wp (d, a, 0, ent (mMax a) [x0, x1, x2, x3, x4, x5], [], G) (RX (RV P) X)) (k : ∀ G', P G' → Wp (d + 1, m, n, L, st, G') Q)
    (kx : ∀ y G', X (tg G' y) G' → match hnd (mHnd m) pc (tg G' y) with
      | some t => Wp (d + 1, m, t, L, [.ref y], G') Q
      | none => Q (.threw y, G')) : Wp (d + 1, m, pc, L, x5 :: x4 :: x3 :: x2 :: x1 :: x0 :: st, G) Q := by
  refine Wp.call (y := (d, a, 0, ent (mMax a) [x0, x1, x2, x3, x4, x5], [], G)) ?_ hc (fun r1 h1 => ?_)
  · simp only [act, he, acte]
    rw [if_pos]
    · rfl
    · exact ⟨by simp, by simpa using hs, okr_rcv hr, hl⟩
  rcases h1 with h1 | ⟨y, e1, h2⟩
  · obtain ⟨e1, h2⟩ := h1
    refine Or.inl ⟨_, ?_, k r1.2 h2⟩
    simp only [aft, he, e1, List.drop_succ_cons, List.drop_zero]
  · have h3 := kx y r1.2 h2
    cases hh : hnd (mHnd m) pc (tg r1.2 y) with
    | some t =>
      rw [hh] at h3
      exact Or.inl ⟨_, by simp only [aft, he, e1, hh], h3⟩
    | none =>
      rw [hh] at h3
      refine Or.inr ⟨by simp only [aft, he, e1, hh], ?_⟩
      rw [← e1] at h3
      exact h3
theorem w_callW6 {P : Value → mG → Prop} {x0 x1 x2 x3 x4 x5 : Value} (he : ft m pc = some (41, v, a, 6, c, n, ts)) (hs : st.length ≤ 8) (hr : okr G c [x0, x1, x2, x3, x4, x5]) (hl : (ents [x0, x1, x2, x3, x4, x5]).length ≤ mMax a) (hc : Wp (d, a, 0, ent (mMax a) [x0, x1, x2, x3, x4, x5], [], G) (RW P)) (k : ∀ w G', P w G' → Wp (d + 1, m, n, L, w :: st, G') Q) : Wp (d + 1, m, pc, L, x5 :: x4 :: x3 :: x2 :: x1 :: x0 :: st, G) Q := by
  refine Wp.call (y := (d, a, 0, ent (mMax a) [x0, x1, x2, x3, x4, x5], [], G)) ?_ hc (fun r1 h1 => ?_)
  · simp only [act, he, acte]
    rw [if_pos]
    · rfl
    · exact ⟨by simp, by simpa using hs, okr_rcv hr, hl⟩
  obtain ⟨z, e1, h2⟩ := h1
  refine Or.inl ⟨_, ?_, k z r1.2 h2⟩
  simp only [aft, he, e1, List.drop_succ_cons, List.drop_zero]
theorem w_callXW6 {P : Value → mG → Prop} {X : Nat → mG → Prop} {x0 x1 x2 x3 x4 x5 : Value} (he : ft m pc = some (41, v, a, 6, c, n, ts)) (hs : st.length ≤ 8) (hr : okr G c [x0, x1, x2, x3, x4, x5]) (hl : (ents [x0, x1, x2, x3, x4, x5]).length ≤ mMax a) (hc : Wp (d, a, 0, ent (mMax a) [x0, x1, x2, x3, x4, x5], [], G) (RX (RW P) X)) (k : ∀ w G', P w G' → Wp (d + 1, m, n, L, w :: st, G') Q)
    (kx : ∀ y G', X (tg G' y) G' → match hnd (mHnd m) pc (tg G' y) with
      | some t => Wp (d + 1, m, t, L, [.ref y], G') Q
      | none => Q (.threw y, G')) : Wp (d + 1, m, pc, L, x5 :: x4 :: x3 :: x2 :: x1 :: x0 :: st, G) Q := by
  refine Wp.call (y := (d, a, 0, ent (mMax a) [x0, x1, x2, x3, x4, x5], [], G)) ?_ hc (fun r1 h1 => ?_)
  · simp only [act, he, acte]
    rw [if_pos]
    · rfl
    · exact ⟨by simp, by simpa using hs, okr_rcv hr, hl⟩
  rcases h1 with h1 | ⟨y, e1, h2⟩
  · obtain ⟨z, e1, h2⟩ := h1
    refine Or.inl ⟨_, ?_, k z r1.2 h2⟩
    simp only [aft, he, e1, List.drop_succ_cons, List.drop_zero]
  · have h3 := kx y r1.2 h2
    cases hh : hnd (mHnd m) pc (tg r1.2 y) with
    | some t =>
      rw [hh] at h3
      exact Or.inl ⟨_, by simp only [aft, he, e1, hh], h3⟩
    | none =>
      rw [hh] at h3
      refine Or.inr ⟨by simp only [aft, he, e1, hh], ?_⟩
      rw [← e1] at h3
      exact h3
theorem w_callI7 {P : Int → mG → Prop} {x0 x1 x2 x3 x4 x5 x6 : Value} (he : ft m pc = some (41, v, a, 7, c, n, ts)) (hs : st.length ≤ 8) (hr : okr G c [x0, x1, x2, x3, x4, x5, x6]) (hl : (ents [x0, x1, x2, x3, x4, x5, x6]).length ≤ mMax a) (hc : Wp (d, a, 0, ent (mMax a) [x0, x1, x2, x3, x4, x5, x6], [], G) (RI P)) (k : ∀ z G', P z G' → Wp (d + 1, m, n, L, .int (N z) :: st, G') Q) : Wp (d + 1, m, pc, L, x6 :: x5 :: x4 :: x3 :: x2 :: x1 :: x0 :: st, G) Q := by
  refine Wp.call (y := (d, a, 0, ent (mMax a) [x0, x1, x2, x3, x4, x5, x6], [], G)) ?_ hc (fun r1 h1 => ?_)
  · simp only [act, he, acte]
    rw [if_pos]
    · rfl
    · exact ⟨by simp, by simpa using hs, okr_rcv hr, hl⟩
  obtain ⟨z, e1, h2⟩ := h1
  refine Or.inl ⟨_, ?_, k z r1.2 h2⟩
  simp only [aft, he, e1, List.drop_succ_cons, List.drop_zero]
theorem w_callXI7 {P : Int → mG → Prop} {X : Nat → mG → Prop} {x0 x1 x2 x3 x4 x5 x6 : Value} (he : ft m pc = some (41, v, a, 7, c, n, ts)) (hs : st.length ≤ 8) (hr : okr G c [x0, x1, x2, x3, x4, x5, x6]) (hl : (ents [x0, x1, x2, x3, x4, x5, x6]).length ≤ mMax a) (hc : Wp (d, a, 0, ent (mMax a) [x0, x1, x2, x3, x4, x5, x6], [], G) (RX (RI P) X)) (k : ∀ z G', P z G' → Wp (d + 1, m, n, L, .int (N z) :: st, G') Q)
    (kx : ∀ y G', X (tg G' y) G' → match hnd (mHnd m) pc (tg G' y) with
      | some t => Wp (d + 1, m, t, L, [.ref y], G') Q
      | none => Q (.threw y, G')) : Wp (d + 1, m, pc, L, x6 :: x5 :: x4 :: x3 :: x2 :: x1 :: x0 :: st, G) Q := by
  refine Wp.call (y := (d, a, 0, ent (mMax a) [x0, x1, x2, x3, x4, x5, x6], [], G)) ?_ hc (fun r1 h1 => ?_)
  · simp only [act, he, acte]
    rw [if_pos]
    · rfl
    · exact ⟨by simp, by simpa using hs, okr_rcv hr, hl⟩
  rcases h1 with h1 | ⟨y, e1, h2⟩
  · obtain ⟨z, e1, h2⟩ := h1
    refine Or.inl ⟨_, ?_, k z r1.2 h2⟩
    simp only [aft, he, e1, List.drop_succ_cons, List.drop_zero]
  · have h3 := kx y r1.2 h2
    cases hh : hnd (mHnd m) pc (tg r1.2 y) with
    | some t =>
      rw [hh] at h3
      exact Or.inl ⟨_, by simp only [aft, he, e1, hh], h3⟩
    | none =>
      rw [hh] at h3
      refine Or.inr ⟨by simp only [aft, he, e1, hh], ?_⟩
      rw [← e1] at h3
      exact h3
theorem w_callV7 {P : mG → Prop} {x0 x1 x2 x3 x4 x5 x6 : Value} (he : ft m pc = some (41, v, a, 7, c, n, ts)) (hs : st.length ≤ 8) (hr : okr G c [x0, x1, x2, x3, x4, x5, x6]) (hl : (ents [x0, x1, x2, x3, x4, x5, x6]).length ≤ mMax a) (hc : Wp (d, a, 0, ent (mMax a) [x0, x1, x2, x3, x4, x5, x6], [], G) (RV P)) (k : ∀ G', P G' → Wp (d + 1, m, n, L, st, G') Q) : Wp (d + 1, m, pc, L, x6 :: x5 :: x4 :: x3 :: x2 :: x1 :: x0 :: st, G) Q := by
  refine Wp.call (y := (d, a, 0, ent (mMax a) [x0, x1, x2, x3, x4, x5, x6], [], G)) ?_ hc (fun r1 h1 => ?_)
  · simp only [act, he, acte]
    rw [if_pos]
    · rfl
    · exact ⟨by simp, by simpa using hs, okr_rcv hr, hl⟩
  obtain ⟨e1, h2⟩ := h1
  refine Or.inl ⟨_, ?_, k r1.2 h2⟩
  simp only [aft, he, e1, List.drop_succ_cons, List.drop_zero]
theorem w_callXV7 {P : mG → Prop} {X : Nat → mG → Prop} {x0 x1 x2 x3 x4 x5 x6 : Value} (he : ft m pc = some (41, v, a, 7, c, n, ts)) (hs : st.length ≤ 8) (hr : okr G c [x0, x1, x2, x3, x4, x5, x6]) (hl : (ents [x0, x1, x2, x3, x4, x5, x6]).length ≤ mMax a) (hc : Wp (d, a, 0, ent (mMax a) [x0, x1, x2, x3, x4, x5, x6], [], G) (RX (RV P) X)) (k : ∀ G', P G' → Wp (d + 1, m, n, L, st, G') Q)
    (kx : ∀ y G', X (tg G' y) G' → match hnd (mHnd m) pc (tg G' y) with
      | some t => Wp (d + 1, m, t, L, [.ref y], G') Q
      | none => Q (.threw y, G')) : Wp (d + 1, m, pc, L, x6 :: x5 :: x4 :: x3 :: x2 :: x1 :: x0 :: st, G) Q := by
  refine Wp.call (y := (d, a, 0, ent (mMax a) [x0, x1, x2, x3, x4, x5, x6], [], G)) ?_ hc (fun r1 h1 => ?_)
  · simp only [act, he, acte]
    rw [if_pos]
    · rfl
    · exact ⟨by simp, by simpa using hs, okr_rcv hr, hl⟩
  rcases h1 with h1 | ⟨y, e1, h2⟩
  · obtain ⟨e1, h2⟩ := h1
    refine Or.inl ⟨_, ?_, k r1.2 h2⟩
    simp only [aft, he, e1, List.drop_succ_cons, List.drop_zero]
  · have h3 := kx y r1.2 h2
    cases hh : hnd (mHnd m) pc (tg r1.2 y) with
    | some t =>
      rw [hh] at h3
      exact Or.inl ⟨_, by simp only [aft, he, e1, hh], h3⟩
    | none =>
      rw [hh] at h3
      refine Or.inr ⟨by simp only [aft, he, e1, hh], ?_⟩
      rw [← e1] at h3
      exact h3
theorem w_callW7 {P : Value → mG → Prop} {x0 x1 x2 x3 x4 x5 x6 : Value} (he : ft m pc = some (41, v, a, 7, c, n, ts)) (hs : st.length ≤ 8) (hr : okr G c [x0, x1, x2, x3, x4, x5, x6]) (hl : (ents [x0, x1, x2, x3, x4, x5, x6]).length ≤ mMax a) (hc : Wp (d, a, 0, ent (mMax a) [x0, x1, x2, x3, x4, x5, x6], [], G) (RW P)) (k : ∀ w G', P w G' → Wp (d + 1, m, n, L, w :: st, G') Q) : Wp (d + 1, m, pc, L, x6 :: x5 :: x4 :: x3 :: x2 :: x1 :: x0 :: st, G) Q := by
  refine Wp.call (y := (d, a, 0, ent (mMax a) [x0, x1, x2, x3, x4, x5, x6], [], G)) ?_ hc (fun r1 h1 => ?_)
  · simp only [act, he, acte]
    rw [if_pos]
    · rfl
    · exact ⟨by simp, by simpa using hs, okr_rcv hr, hl⟩
  obtain ⟨z, e1, h2⟩ := h1
  refine Or.inl ⟨_, ?_, k z r1.2 h2⟩
  simp only [aft, he, e1, List.drop_succ_cons, List.drop_zero]
theorem w_callXW7 {P : Value → mG → Prop} {X : Nat → mG → Prop} {x0 x1 x2 x3 x4 x5 x6 : Value} (he : ft m pc = some (41, v, a, 7, c, n, ts)) (hs : st.length ≤ 8) (hr : okr G c [x0, x1, x2, x3, x4, x5, x6]) (hl : (ents [x0, x1, x2, x3, x4, x5, x6]).length ≤ mMax a) (hc : Wp (d, a, 0, ent (mMax a) [x0, x1, x2, x3, x4, x5, x6], [], G) (RX (RW P) X)) (k : ∀ w G', P w G' → Wp (d + 1, m, n, L, w :: st, G') Q)
    (kx : ∀ y G', X (tg G' y) G' → match hnd (mHnd m) pc (tg G' y) with
      | some t => Wp (d + 1, m, t, L, [.ref y], G') Q
      | none => Q (.threw y, G')) : Wp (d + 1, m, pc, L, x6 :: x5 :: x4 :: x3 :: x2 :: x1 :: x0 :: st, G) Q := by
  refine Wp.call (y := (d, a, 0, ent (mMax a) [x0, x1, x2, x3, x4, x5, x6], [], G)) ?_ hc (fun r1 h1 => ?_)
  · simp only [act, he, acte]
    rw [if_pos]
    · rfl
    · exact ⟨by simp, by simpa using hs, okr_rcv hr, hl⟩
  rcases h1 with h1 | ⟨y, e1, h2⟩
  · obtain ⟨z, e1, h2⟩ := h1
    refine Or.inl ⟨_, ?_, k z r1.2 h2⟩
    simp only [aft, he, e1, List.drop_succ_cons, List.drop_zero]
  · have h3 := kx y r1.2 h2
    cases hh : hnd (mHnd m) pc (tg r1.2 y) with
    | some t =>
      rw [hh] at h3
      exact Or.inl ⟨_, by simp only [aft, he, e1, hh], h3⟩
    | none =>
      rw [hh] at h3
      refine Or.inr ⟨by simp only [aft, he, e1, hh], ?_⟩
      rw [← e1] at h3
      exact h3
theorem w_callI8 {P : Int → mG → Prop} {x0 x1 x2 x3 x4 x5 x6 x7 : Value} (he : ft m pc = some (41, v, a, 8, c, n, ts)) (hs : st.length ≤ 8) (hr : okr G c [x0, x1, x2, x3, x4, x5, x6, x7]) (hl : (ents [x0, x1, x2, x3, x4, x5, x6, x7]).length ≤ mMax a) (hc : Wp (d, a, 0, ent (mMax a) [x0, x1, x2, x3, x4, x5, x6, x7], [], G) (RI P)) (k : ∀ z G', P z G' → Wp (d + 1, m, n, L, .int (N z) :: st, G') Q) : Wp (d + 1, m, pc, L, x7 :: x6 :: x5 :: x4 :: x3 :: x2 :: x1 :: x0 :: st, G) Q := by
  refine Wp.call (y := (d, a, 0, ent (mMax a) [x0, x1, x2, x3, x4, x5, x6, x7], [], G)) ?_ hc (fun r1 h1 => ?_)
  · simp only [act, he, acte]
    rw [if_pos]
    · rfl
    · exact ⟨by simp, by simpa using hs, okr_rcv hr, hl⟩
  obtain ⟨z, e1, h2⟩ := h1
  refine Or.inl ⟨_, ?_, k z r1.2 h2⟩
  simp only [aft, he, e1, List.drop_succ_cons, List.drop_zero]
theorem w_callXI8 {P : Int → mG → Prop} {X : Nat → mG → Prop} {x0 x1 x2 x3 x4 x5 x6 x7 : Value} (he : ft m pc = some (41, v, a, 8, c, n, ts)) (hs : st.length ≤ 8) (hr : okr G c [x0, x1, x2, x3, x4, x5, x6, x7]) (hl : (ents [x0, x1, x2, x3, x4, x5, x6, x7]).length ≤ mMax a) (hc : Wp (d, a, 0, ent (mMax a) [x0, x1, x2, x3, x4, x5, x6, x7], [], G) (RX (RI P) X)) (k : ∀ z G', P z G' → Wp (d + 1, m, n, L, .int (N z) :: st, G') Q)
    (kx : ∀ y G', X (tg G' y) G' → match hnd (mHnd m) pc (tg G' y) with
      | some t => Wp (d + 1, m, t, L, [.ref y], G') Q
      | none => Q (.threw y, G')) : Wp (d + 1, m, pc, L, x7 :: x6 :: x5 :: x4 :: x3 :: x2 :: x1 :: x0 :: st, G) Q := by
  refine Wp.call (y := (d, a, 0, ent (mMax a) [x0, x1, x2, x3, x4, x5, x6, x7], [], G)) ?_ hc (fun r1 h1 => ?_)
  · simp only [act, he, acte]
    rw [if_pos]
    · rfl
    · exact ⟨by simp, by simpa using hs, okr_rcv hr, hl⟩
  rcases h1 with h1 | ⟨y, e1, h2⟩
  · obtain ⟨z, e1, h2⟩ := h1
    refine Or.inl ⟨_, ?_, k z r1.2 h2⟩
    simp only [aft, he, e1, List.drop_succ_cons, List.drop_zero]
  · have h3 := kx y r1.2 h2
    cases hh : hnd (mHnd m) pc (tg r1.2 y) with
    | some t =>
      rw [hh] at h3
      exact Or.inl ⟨_, by simp only [aft, he, e1, hh], h3⟩
    | none =>
      rw [hh] at h3
      refine Or.inr ⟨by simp only [aft, he, e1, hh], ?_⟩
      rw [← e1] at h3
      exact h3
theorem w_callV8 {P : mG → Prop} {x0 x1 x2 x3 x4 x5 x6 x7 : Value} (he : ft m pc = some (41, v, a, 8, c, n, ts)) (hs : st.length ≤ 8) (hr : okr G c [x0, x1, x2, x3, x4, x5, x6, x7]) (hl : (ents [x0, x1, x2, x3, x4, x5, x6, x7]).length ≤ mMax a) (hc : Wp (d, a, 0, ent (mMax a) [x0, x1, x2, x3, x4, x5, x6, x7], [], G) (RV P)) (k : ∀ G', P G' → Wp (d + 1, m, n, L, st, G') Q) : Wp (d + 1, m, pc, L, x7 :: x6 :: x5 :: x4 :: x3 :: x2 :: x1 :: x0 :: st, G) Q := by
  refine Wp.call (y := (d, a, 0, ent (mMax a) [x0, x1, x2, x3, x4, x5, x6, x7], [], G)) ?_ hc (fun r1 h1 => ?_)
  · simp only [act, he, acte]
    rw [if_pos]
    · rfl
    · exact ⟨by simp, by simpa using hs, okr_rcv hr, hl⟩
  obtain ⟨e1, h2⟩ := h1
  refine Or.inl ⟨_, ?_, k r1.2 h2⟩
  simp only [aft, he, e1, List.drop_succ_cons, List.drop_zero]
theorem w_callXV8 {P : mG → Prop} {X : Nat → mG → Prop} {x0 x1 x2 x3 x4 x5 x6 x7 : Value} (he : ft m pc = some (41, v, a, 8, c, n, ts)) (hs : st.length ≤ 8) (hr : okr G c [x0, x1, x2, x3, x4, x5, x6, x7]) (hl : (ents [x0, x1, x2, x3, x4, x5, x6, x7]).length ≤ mMax a) (hc : Wp (d, a, 0, ent (mMax a) [x0, x1, x2, x3, x4, x5, x6, x7], [], G) (RX (RV P) X)) (k : ∀ G', P G' → Wp (d + 1, m, n, L, st, G') Q)
    (kx : ∀ y G', X (tg G' y) G' → match hnd (mHnd m) pc (tg G' y) with
      | some t => Wp (d + 1, m, t, L, [.ref y], G') Q
      | none => Q (.threw y, G')) : Wp (d + 1, m, pc, L, x7 :: x6 :: x5 :: x4 :: x3 :: x2 :: x1 :: x0 :: st, G) Q := by
  refine Wp.call (y := (d, a, 0, ent (mMax a) [x0, x1, x2, x3, x4, x5, x6, x7], [], G)) ?_ hc (fun r1 h1 => ?_)
  · simp only [act, he, acte]
    rw [if_pos]
    · rfl
    · exact ⟨by simp, by simpa using hs, okr_rcv hr, hl⟩
  rcases h1 with h1 | ⟨y, e1, h2⟩
  · obtain ⟨e1, h2⟩ := h1
    refine Or.inl ⟨_, ?_, k r1.2 h2⟩
    simp only [aft, he, e1, List.drop_succ_cons, List.drop_zero]
  · have h3 := kx y r1.2 h2
    cases hh : hnd (mHnd m) pc (tg r1.2 y) with
    | some t =>
      rw [hh] at h3
      exact Or.inl ⟨_, by simp only [aft, he, e1, hh], h3⟩
    | none =>
      rw [hh] at h3
      refine Or.inr ⟨by simp only [aft, he, e1, hh], ?_⟩
      rw [← e1] at h3
      exact h3
theorem w_callW8 {P : Value → mG → Prop} {x0 x1 x2 x3 x4 x5 x6 x7 : Value} (he : ft m pc = some (41, v, a, 8, c, n, ts)) (hs : st.length ≤ 8) (hr : okr G c [x0, x1, x2, x3, x4, x5, x6, x7]) (hl : (ents [x0, x1, x2, x3, x4, x5, x6, x7]).length ≤ mMax a) (hc : Wp (d, a, 0, ent (mMax a) [x0, x1, x2, x3, x4, x5, x6, x7], [], G) (RW P)) (k : ∀ w G', P w G' → Wp (d + 1, m, n, L, w :: st, G') Q) : Wp (d + 1, m, pc, L, x7 :: x6 :: x5 :: x4 :: x3 :: x2 :: x1 :: x0 :: st, G) Q := by
  refine Wp.call (y := (d, a, 0, ent (mMax a) [x0, x1, x2, x3, x4, x5, x6, x7], [], G)) ?_ hc (fun r1 h1 => ?_)
  · simp only [act, he, acte]
    rw [if_pos]
    · rfl
    · exact ⟨by simp, by simpa using hs, okr_rcv hr, hl⟩
  obtain ⟨z, e1, h2⟩ := h1
  refine Or.inl ⟨_, ?_, k z r1.2 h2⟩
  simp only [aft, he, e1, List.drop_succ_cons, List.drop_zero]
theorem w_callXW8 {P : Value → mG → Prop} {X : Nat → mG → Prop} {x0 x1 x2 x3 x4 x5 x6 x7 : Value} (he : ft m pc = some (41, v, a, 8, c, n, ts)) (hs : st.length ≤ 8) (hr : okr G c [x0, x1, x2, x3, x4, x5, x6, x7]) (hl : (ents [x0, x1, x2, x3, x4, x5, x6, x7]).length ≤ mMax a) (hc : Wp (d, a, 0, ent (mMax a) [x0, x1, x2, x3, x4, x5, x6, x7], [], G) (RX (RW P) X)) (k : ∀ w G', P w G' → Wp (d + 1, m, n, L, w :: st, G') Q)
    (kx : ∀ y G', X (tg G' y) G' → match hnd (mHnd m) pc (tg G' y) with
      | some t => Wp (d + 1, m, t, L, [.ref y], G') Q
      | none => Q (.threw y, G')) : Wp (d + 1, m, pc, L, x7 :: x6 :: x5 :: x4 :: x3 :: x2 :: x1 :: x0 :: st, G) Q := by
  refine Wp.call (y := (d, a, 0, ent (mMax a) [x0, x1, x2, x3, x4, x5, x6, x7], [], G)) ?_ hc (fun r1 h1 => ?_)
  · simp only [act, he, acte]
    rw [if_pos]
    · rfl
    · exact ⟨by simp, by simpa using hs, okr_rcv hr, hl⟩
  rcases h1 with h1 | ⟨y, e1, h2⟩
  · obtain ⟨z, e1, h2⟩ := h1
    refine Or.inl ⟨_, ?_, k z r1.2 h2⟩
    simp only [aft, he, e1, List.drop_succ_cons, List.drop_zero]
  · have h3 := kx y r1.2 h2
    cases hh : hnd (mHnd m) pc (tg r1.2 y) with
    | some t =>
      rw [hh] at h3
      exact Or.inl ⟨_, by simp only [aft, he, e1, hh], h3⟩
    | none =>
      rw [hh] at h3
      refine Or.inr ⟨by simp only [aft, he, e1, hh], ?_⟩
      rw [← e1] at h3
      exact h3
theorem w_face {P : mG → Prop} {X : Nat → mG → Prop} {x : Nat} {x1 x2 : Value} (he : ft m pc = some (42, v, a, 3, c, n, ts)) (hs : st.length ≤ 8) (ht : 9 ≤ tg G x ∧ tg G x ≤ 19) (hl : (ents [.ref x, x1, x2]).length ≤ mMax (disp (tg G x))) (hc : Wp (d, disp (tg G x), 0, ent (mMax (disp (tg G x))) [.ref x, x1, x2], [], G) (RX (RV P) X)) (k : ∀ G', P G' → Wp (d + 1, m, n, L, st, G') Q)
    (kx : ∀ y G', X (tg G' y) G' → match hnd (mHnd m) pc (tg G' y) with
      | some t => Wp (d + 1, m, t, L, [.ref y], G') Q
      | none => Q (.threw y, G')) : Wp (d + 1, m, pc, L, x2 :: x1 :: .ref x :: st, G) Q := by
  refine Wp.call (y := (d, disp (tg G x), 0, ent (mMax (disp (tg G x))) [.ref x, x1, x2], [], G)) ?_ hc (fun r1 h1 => ?_)
  · simp only [act, he, acte]
    exact if_pos ⟨by simp, by simpa using hs, ht.1, ht.2, hl⟩
  rcases h1 with ⟨e1, h2⟩ | ⟨y, e1, h2⟩
  · refine Or.inl ⟨_, ?_, k r1.2 h2⟩
    simp only [aft, he, e1, List.drop_succ_cons, List.drop_zero]
  · have h3 := kx y r1.2 h2
    cases hh : hnd (mHnd m) pc (tg r1.2 y) with
    | some t =>
      rw [hh] at h3
      exact Or.inl ⟨_, by simp only [aft, he, e1, hh], h3⟩
    | none =>
      rw [hh] at h3
      refine Or.inr ⟨by simp only [aft, he, e1, hh], ?_⟩
      rw [← e1] at h3
      exact h3
end calls
