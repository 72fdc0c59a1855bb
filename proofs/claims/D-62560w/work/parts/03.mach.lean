/-! THE PURE MACHINE. Heap: tags, lengths, ints, longs, doubles, references, next address, slots used. Addresses below 64 are constants; the rest is what the run made. -/
abbrev mE : Type := Nat × Int32 × Nat × Nat × Nat × Nat × List Nat
abbrev mG : Type := (Nat → Nat) × (Nat → Nat) × (Nat → Nat → Int32) × (Nat → Nat → Int64) × (Nat → Nat → UInt64) × (Nat → Nat → Option Nat) × Nat × Nat
abbrev mL : Type := List (Option Value)
abbrev mC : Type := Nat × Nat × Nat × mL × List Value × mG
abbrev mR : Type := Outcome × mG
def tg (G : mG) (a : Nat) : Nat := G.1 a
def ln (G : mG) (a : Nat) : Nat := G.2.1 a
def gI (G : mG) (a k : Nat) : Int32 := G.2.2.1 a k
def gJ (G : mG) (a k : Nat) : Int64 := G.2.2.2.1 a k
def gD (G : mG) (a k : Nat) : UInt64 := G.2.2.2.2.1 a k
def gP (G : mG) (a k : Nat) : Option Nat := G.2.2.2.2.2.1 a k
def nx (G : mG) : Nat := G.2.2.2.2.2.2.1
def us (G : mG) : Nat := G.2.2.2.2.2.2.2
def u2 {α : Type} (f : Nat → Nat → α) (a k : Nat) (v : α) : Nat → Nat → α := fun a' k' => if a' = a then (if k' = k then v else f a' k') else f a' k'
def sI (G : mG) (a k : Nat) (v : Int32) : mG := (G.1, G.2.1, u2 G.2.2.1 a k v, G.2.2.2)
def sJ (G : mG) (a k : Nat) (v : Int64) : mG := (G.1, G.2.1, G.2.2.1, u2 G.2.2.2.1 a k v, G.2.2.2.2)
def sD (G : mG) (a k : Nat) (v : UInt64) : mG := (G.1, G.2.1, G.2.2.1, G.2.2.2.1, u2 G.2.2.2.2.1 a k v, G.2.2.2.2.2)
def sP (G : mG) (a k : Nat) (v : Option Nat) : mG := (G.1, G.2.1, G.2.2.1, G.2.2.2.1, G.2.2.2.2.1, u2 G.2.2.2.2.2.1 a k v, G.2.2.2.2.2.2)
def u1 {α : Type} (f : Nat → α) (a : Nat) (v : α) : Nat → α := fun a' => if a' = a then v else f a'
/-- a new cell of tag t, length n, all slots zero; w slots are booked -/
def al (G : mG) (t n w : Nat) : mG := (u1 G.1 (nx G) t, u1 G.2.1 (nx G) n, u1 G.2.2.1 (nx G) (fun _ => 0), u1 G.2.2.2.1 (nx G) (fun _ => 0), u1 G.2.2.2.2.1 (nx G) (fun _ => 0), u1 G.2.2.2.2.2.1 (nx G) (fun _ => none), nx G + 1, us G + w)
def rv : Option Nat → Value
  | none => .null
  | some a => .ref a
/-- the value in a slot of sort s: 0 int 1 long 2 double 3 reference 4 boolean 5 char 6 byte -/
def gv (G : mG) (s a k : Nat) : Value := match s with
  | 1 => .long (gJ G a k)
  | 2 => .double (gD G a k)
  | 3 => rv (gP G a k)
  | _ => .int (gI G a k)
def chr (x : Int32) : Bool := decide (0 ≤ x.toInt) && decide (x.toInt < 65536)
def bit (x : Int32) : Bool := decide (x = 0) || decide (x = 1)
/-- a value put into a slot of sort s -/
def pv (G : mG) (s a k : Nat) (v : Value) : Option mG := match s, v with
  | 0, .int x => some (sI G a k x)
  | 1, .long x => some (sJ G a k x)
  | 2, .double x => some (sD G a k x)
  | 3, .null => some (sP G a k none)
  | 3, .ref b => some (sP G a k (some b))
  | 4, .int x => if bit x = true then some (sI G a k x) else none
  | 5, .int x => if chr x = true then some (sI G a k x) else none
  | _, _ => none
/-- may this value be read as type t: 0 int 1 long 2 double 3 reference -/
def tyo (t : Nat) (v : Value) : Bool := match t, v with
  | 0, .int _ => true
  | 1, .long _ => true
  | 2, .double _ => true
  | 3, .ref _ => true
  | 3, .null => true
  | _, _ => false
/-- a category-2 value -/
def isW : Option Value → Bool
  | some (.long _) => true
  | some (.double _) => true
  | _ => false
def prevW (L : mL) (i : Nat) : Bool := match i with
  | 0 => false
  | j + 1 => isW ((L[j]?).getD none)
/-- the locals at a method's entry -/
def ents : List Value → mL
  | [] => []
  | v :: t => if isW (some v) then some v :: none :: ents t else some v :: ents t
def ent (n : Nat) (vs : List Value) : mL := ents vs ++ List.replicate (n - (ents vs).length) none
def cnd (c : Nat) (x y : Int32) : Bool := match c with
  | 0 => decide (x = y)
  | 1 => decide (¬ x = y)
  | 2 => decide (x < y)
  | 3 => decide (y ≤ x)
  | 4 => decide (y < x)
  | _ => decide (x ≤ y)
/-- is the index within an array of n -/
def inb (i : Int32) (n : Nat) : Bool := decide (0 ≤ i.toInt) && decide (i.toInt < n)
def ibin (o : Nat) (x y : Int32) : Int32 := match o with
  | 0 => x + y
  | 1 => x - y
  | 2 => x * y
  | 3 => x &&& y
  | _ => x >>> (y &&& 31)
def lbin (o : Nat) (x y : Int64) : Int64 := match o with
  | 0 => x + y
  | 1 => x - y
  | 2 => x * y
  | 3 => x &&& y
  | _ => x ||| y
def dbin (o : Nat) (x y : UInt64) : UInt64 := match o with
  | 0 => FP.dadd x y
  | 1 => FP.dsub x y
  | 2 => FP.dmul x y
  | _ => FP.ddiv x y
def nonan (r : UInt64) : Bool := decide (r &&& 0x7fffffffffffffff ≤ 0x7ff0000000000000)
/-- the sort of an array's places, by its tag; 9: no array -/
def asrt (t : Nat) : Nat := match t with
  | 50 => 0
  | 51 => 4
  | 52 => 5
  | 53 => 6
  | 54 => 1
  | 55 => 2
  | 56 => 3
  | 57 => 3
  | 58 => 3
  | 59 => 3
  | 60 => 3
  | 62 => 0
  | 63 => 3
  | _ => 9
/-- may an array load of sort s read an array of this tag -/
def ldok (s t : Nat) : Bool := match s with
  | 0 => t == 50 || t == 62
  | 1 => t == 54
  | 2 => t == 55
  | 3 => t == 56 || t == 57 || t == 58 || t == 59 || t == 60
  | 4 => t == 51 || t == 53
  | _ => t == 52
/-- may a value of sort s be stored in an array of this tag; a reference's own tag is u -/
def stok (s t u : Nat) : Bool := match s with
  | 0 => t == 50
  | 1 => t == 54
  | 2 => t == 55
  | 3 => (u == 99 && (t == 56 || t == 57 || t == 58 || t == 59)) || (t == 56 && (u == 4 || u == 5 || u == 6 || u == 7 || u == 8 || (decide (9 ≤ u) && decide (u ≤ 19)))) || (t == 57 && (decide (9 ≤ u) && decide (u ≤ 19))) || (t == 58 && u == 25) || (t == 59 && u == 3)
  | 4 => t == 51
  | _ => t == 52
/-- is a cell of tag u of the class with tag t (checkcast, instanceof): 39 the interface Node, 56 Object[] -/
def isof (u t : Nat) : Bool := if t = 39 then decide (9 ≤ u) && decide (u ≤ 19) else u == t
def tgv (G : mG) : Value → Nat
  | .ref a => tg G a
  | .null => 99
  | _ => 0
def jmp (d m pc : Nat) (L : mL) (st : List Value) (G : mG) : Option (mC ⊕ (mR ⊕ mC)) := some (.inl (d, m, pc, L, st, G))
/-- two references that may be compared -/
def acok (x y : Nat) : Bool := x == y || (decide (1 ≤ x) && decide (x ≤ 11) && decide (1 ≤ y) && decide (y ≤ 11)) || (decide (12 ≤ x) && decide (x ≤ 13) && decide (12 ≤ y) && decide (y ≤ 13)) || (decide (64 ≤ x) && (decide (64 ≤ y) || (decide (1 ≤ y) && decide (y ≤ 13)))) || (decide (64 ≤ y) && decide (1 ≤ x) && decide (x ≤ 13))
/-- arraycopy between different arrays -/
def cpy (G : mG) (x i y j k : Nat) : mG := (G.1, G.2.1, (fun a q => if a = y ∧ j ≤ q ∧ q < j + k then gI G x (i + (q - j)) else gI G a q), G.2.2.2.1, G.2.2.2.2.1, (fun a q => if a = y ∧ j ≤ q ∧ q < j + k then gP G x (i + (q - j)) else gP G a q), nx G, us G)
/-- may this value be returned from a method of this sort -/
def ret1 (s : Nat) (w : Value) : Bool := match s, w with
  | 0, .int _ => true
  | 1, .long _ => true
  | 2, .double _ => true
  | 3, .ref _ => true
  | 3, .null => true
  | 4, .int x => bit x
  | 5, .int x => chr x
  | 6, .int x => decide (x = 0)
  | _, _ => false
/-- new boolean[13][5]: the outer array, then its rows -/
def gridr : Nat → mG → mG
  | 0, G => G
  | n + 1, G => al (gridr n G) 51 5 5
def grid (G : mG) : mG := (fun G1 : mG => (G1.1, G1.2.1, G1.2.2.1, G1.2.2.2.1, G1.2.2.2.2.1, (fun a k => if a = nx G ∧ k < 13 then some (nx G + 1 + k) else gP G1 a k), nx G1, us G1)) (gridr 13 (al G 60 13 13))
/-- the receiver of a call: its tag (99: any) -/
def rcv (G : mG) (c : Nat) (vs : List Value) : Bool := match vs with
  | .ref x :: _ => c == 99 || tg G x == c
  | _ => false
/-- the interface's method run, by the receiver's tag -/
def disp (t : Nat) : Nat := (disps.getD (t - 9) 0)
def ft (m pc : Nat) : Option mE := ((mTs.getD m []).foldr (fun q r => if q.1 = pc then some q.2 else r) none)
/-- what an instruction does: the stack and heap part. 'n' the next place -/
def acte (op : Nat) (v : Int32) (a b c n : Nat) (ts : List Nat) (d m pc : Nat) (L : mL) (st : List Value) (G : mG) : Option (mC ⊕ (mR ⊕ mC)) := match op with
  | 1 => match L[a]? with
    | some (some w) => if tyo b w = true then jmp d m n L (w :: st) G else none
    | _ => none
  | 2 => match st with
    | w :: r => if tyo b w = true ∧ prevW L a = false ∧ a < L.length then jmp d m n (L.set a (some w)) r G else none
    | _ => none
  | 3 => match st with
    | w :: r => if tyo b w = true ∧ prevW L a = false ∧ a + 1 < L.length then jmp d m n ((L.set a (some w)).set (a + 1) none) r G else none
    | _ => none
  | 4 => jmp d m n L (.int v :: st) G
  | 5 => jmp d m n L (.long (Int64.ofNat a) :: st) G
  | 6 => jmp d m n L (.double (UInt64.ofNat a) :: st) G
  | 7 => jmp d m n L (.null :: st) G
  | 8 => jmp d m n L (.ref a :: st) G
  | 9 => match st with
    | .int y :: .int x :: r => jmp d m n L (.int (ibin a x y) :: r) G
    | _ => none
  | 10 => match st with
    | .int x :: r => if a = 0 then jmp d m n L (.int (-x) :: r) G else if chr x = true then jmp d m n L (.int x :: r) G else none
    | _ => none
  | 11 => match st with
    | .int y :: .int x :: r => if y = 0 then none else jmp d m n L (.int (if a = 0 then x / y else x - x / y * y) :: r) G
    | _ => none
  | 12 => match st with
    | .long y :: .long x :: r => jmp d m n L (.long (lbin a x y) :: r) G
    | _ => none
  | 13 => match st with
    | .long y :: .long x :: r => if y = 0 then none else jmp d m n L (.long (if a = 0 then x / y else x - x / y * y) :: r) G
    | _ => none
  | 14 => match st with
    | .long x :: r => jmp d m n L (.long (-x) :: r) G
    | _ => none
  | 15 => match st with
    | .int y :: .long x :: r => jmp d m n L (.long (if a = 0 then x <<< (y.toInt64 &&& 63) else x >>> (y.toInt64 &&& 63)) :: r) G
    | _ => none
  | 16 => match st with
    | .long y :: .long x :: r => jmp d m n L (.int (lg_cmp x y) :: r) G
    | _ => none
  | 17 => match a, st with
    | 0, .int x :: r => jmp d m n L (.long x.toInt64 :: r) G
    | 1, .long x :: r => jmp d m n L (.int x.toInt32 :: r) G
    | 2, .int x :: r => jmp d m n L (.double (FP.i2d x) :: r) G
    | 3, .double x :: r => jmp d m n L (.int (FP.d2i x) :: r) G
    | 4, .long x :: r => jmp d m n L (.double (FP.l2d x) :: r) G
    | _, _ => none
  | 18 => match st with
    | .double y :: .double x :: r => if nonan (dbin a x y) = true then jmp d m n L (.double (dbin a x y) :: r) G else none
    | _ => none
  | 19 => match st with
    | .double x :: r => jmp d m n L (.double (FP.dneg x) :: r) G
    | _ => none
  | 20 => match st with
    | .double y :: .double x :: r => jmp d m n L (.int (Op.cmpValue (FP.dcmp x y) (if a = 0 then .l else .g)) :: r) G
    | _ => none
  | 21 => jmp d m a L st G
  | 22 => match st with
    | .int x :: r => if cnd b x 0 = true then jmp d m a L r G else jmp d m n L r G
    | _ => none
  | 23 => match st with
    | .int y :: .int x :: r => if cnd b x y = true then jmp d m a L r G else jmp d m n L r G
    | _ => none
  | 24 => match st with
    | .null :: r => jmp d m (if b = 0 then a else n) L r G
    | .ref _ :: r => jmp d m (if b = 0 then n else a) L r G
    | _ => none
  | 25 => match st with
    | .ref y :: .ref x :: r => if acok x y = true then (if (if b = 0 then x = y else ¬ x = y) then jmp d m a L r G else jmp d m n L r G) else none
    | _ => none
  | 26 => match st with
    | .int x :: r => if 0 ≤ (x.toInt - v.toInt) ∧ (x.toInt - v.toInt).toNat < ts.length then jmp d m (ts.getD (x.toInt - v.toInt).toNat 0) L r G else jmp d m a L r G
    | _ => none
  | 27 => match L[a]? with
    | some (some (.int x)) => if prevW L a = false ∧ a < L.length then jmp d m n (L.set a (some (.int (x + v)))) st G else none
    | _ => none
  | 28 => match st with
    | w :: r => if isW (some w) = false then jmp d m n L (w :: w :: r) G else none
    | _ => none
  | 29 => match st with
    | w :: r => if isW (some w) = false then jmp d m n L r G else none
    | _ => none
  | 30 => match st with
    | .ref x :: r => if tg G x = a then jmp d m n L (gv G c x b :: r) G else none
    | _ => none
  | 31 => match st with
    | w :: u :: r => if isW (some w) = false ∧ isW (some u) = false then jmp d m n L (w :: u :: w :: r) G else none
    | _ => none
  | 32 => match st with
    | w :: u :: r => if isW (some w) = false ∧ isW (some u) = false then jmp d m n L (w :: u :: w :: u :: r) G else none
    | _ => none
  | 33 => match st with
    | w :: .ref x :: r => if tg G x = a then (match pv G c x b w with
      | some G' => jmp d m n L r G'
      | none => none) else none
    | _ => none
  | 34 => match st with
    | .int i :: .ref x :: r => if ldok a (tg G x) = true ∧ inb i (ln G x) = true then jmp d m n L (gv G (asrt (tg G x)) x i.toNatClampNeg :: r) G else none
    | _ => none
  | 35 => match st with
    | w :: .int i :: .ref x :: r => if stok a (tg G x) (tgv G w) = true ∧ inb i (ln G x) = true then (match pv G (asrt (tg G x)) x i.toNatClampNeg w with
      | some G' => jmp d m n L r G'
      | none => none) else none
    | _ => none
  | 36 => match st with
    | .ref x :: r => if ¬ asrt (tg G x) = 9 then jmp d m n L (.int (Int32.ofNat (ln G x)) :: r) G else none
    | _ => none
  | 37 => match st with
    | .int i :: r => if inb i 100000 = true then jmp d m n L (.ref (nx G) :: r) (al G a i.toNatClampNeg i.toNatClampNeg) else none
    | _ => none
  | 38 => jmp d m n L (.ref (nx G) :: st) (al G a 0 b)
  | 39 => match st with
    | .int i :: r => if inb i 100000 = true then jmp d m n L (.ref (nx G) :: r) (al G a i.toNatClampNeg i.toNatClampNeg) else none
    | _ => none
  | 40 => if 6 ≤ d ∧ st.length ≤ 8 then some (.inr (.inl (.threw (nx G), al G a 0 6))) else none
  | 41 => match d with
    | 0 => none
    | d' + 1 => if b ≤ st.length ∧ (st.drop b).length ≤ 8 ∧ (c = 0 ∨ rcv G c (st.take b).reverse = true) ∧ (ents (st.take b).reverse).length ≤ mMax a then some (.inr (.inr (d', a, 0, ent (mMax a) (st.take b).reverse, [], G))) else none
  | 42 => match d, (st.take b).reverse with
    | d' + 1, .ref x :: vs => if b ≤ st.length ∧ (st.drop b).length ≤ 8 ∧ 9 ≤ tg G x ∧ tg G x ≤ 19 ∧ (ents (Value.ref x :: vs)).length ≤ mMax (disp (tg G x)) then some (.inr (.inr (d', disp (tg G x), 0, ent (mMax (disp (tg G x))) (.ref x :: vs), [], G))) else none
    | _, _ => none
  | 43 => match d, st with
    | _ + 1, .int k :: .int j :: .ref y :: .int i :: .ref x :: r => if r.length ≤ 8 ∧ asrt (tg G x) = asrt (tg G y) ∧ (tg G x = 52 ∧ tg G y = 52 ∨ (tg G x = 56 ∨ tg G x = 63) ∧ tg G y = 56) ∧ ¬ x = y ∧ 0 ≤ k.toInt ∧ 0 ≤ i.toInt ∧ 0 ≤ j.toInt ∧ i.toInt + k.toInt ≤ ln G x ∧ j.toInt + k.toInt ≤ ln G y then jmp d m n L r (cpy G x i.toNatClampNeg y j.toNatClampNeg k.toNatClampNeg) else none
    | _, _ => none
  | 44 => match d, st with
    | _ + 1, .ref _ :: r => if r.length ≤ 8 then jmp d m n L r G else none
    | _, _ => none
  | 45 => match d, st with
    | _ + 1, .ref x :: r => if r.length ≤ 8 ∧ tg G x = 56 then jmp d m n L (.ref 14 :: r) G else none
    | _, _ => none
  | 46 => match st with
    | [w] => if ret1 a w = true then some (.inr (.inl (.returned (some w), G))) else none
    | _ => none
  | 47 => match st with
    | [] => some (.inr (.inl (.returned none, G)))
    | _ => none
  | 48 => match st with
    | .null :: r => jmp d m n L (.null :: r) G
    | .ref x :: r => if isof (tg G x) a = true then jmp d m n L (.ref x :: r) G else none
    | _ => none
  | 49 => match st with
    | .null :: r => jmp d m n L (.int 0 :: r) G
    | .ref x :: r => if 9 ≤ tg G x ∧ tg G x ≤ 19 then jmp d m n L (.int (if isof (tg G x) a = true then 1 else 0) :: r) G else none
    | _ => none
  | 50 => match st with
    | .int j :: .int i :: r => if i = 13 ∧ j = 5 then jmp d m n L (.ref (nx G) :: r) (grid G) else none
    | _ => none
  | 51 => jmp d m n L (.retAddr 0 :: st) G
  | 52 => match d, st with
    | _ + 1, .int y :: .int x :: r => if r.length ≤ 8 then jmp d m n L (.int (if a = 0 then (if y < x then y else x) else (if x < y then y else x)) :: r) G else none
    | _, _ => none
  | _ => none
/-- one step: on, out, or into a callee -/
def act (x : mC) : Option (mC ⊕ (mR ⊕ mC)) := match ft x.2.1 x.2.2.1 with
  | some e => acte e.1 e.2.1 e.2.2.1 e.2.2.2.1 e.2.2.2.2.1 e.2.2.2.2.2.1 e.2.2.2.2.2.2 x.1 x.2.1 x.2.2.1 x.2.2.2.1 x.2.2.2.2.1 x.2.2.2.2.2
  | none => none
def hnd (hs : List (Nat × Nat × Nat × Nat)) (pc t : Nat) : Option Nat := hs.foldr (fun q r => if q.1 ≤ pc ∧ pc < q.2.1 ∧ t = q.2.2.2 then some q.2.2.1 else r) none
/-- behind a callee's end -/
def aft (x : mC) (r : mR) : Option (mC ⊕ mR) := match ft x.2.1 x.2.2.1 with
  | some e => match r.1 with
    | .returned none => some (.inl (x.1, x.2.1, e.2.2.2.2.2.1, x.2.2.2.1, x.2.2.2.2.1.drop e.2.2.2.1, r.2))
    | .returned (some w) => some (.inl (x.1, x.2.1, e.2.2.2.2.2.1, x.2.2.2.1, w :: x.2.2.2.2.1.drop e.2.2.2.1, r.2))
    | .threw y => match hnd (mHnd x.2.1) x.2.2.1 (tg r.2 y) with
      | some t => some (.inl (x.1, x.2.1, t, x.2.2.2.1, [.ref y], r.2))
      | none => some (.inr r)
  | none => none
def run : Nat → mC → Option mR
  | 0, _ => none
  | n + 1, x => match act x with
    | some (.inl y) => run n y
    | some (.inr (.inl r)) => some r
    | some (.inr (.inr y)) => match run n y with
      | some r => match aft x r with
        | some (.inl z) => run n z
        | some (.inr r') => some r'
        | none => none
      | none => none
    | none => none
theorem run_mono : ∀ (n k : Nat) (x : mC) (r : mR), run n x = some r → run (n + k) x = some r := by
  intro n
  induction n with
  | zero => intro k x r h; exact absurd h (by simp [run])
  | succ n ih =>
    intro k x r h
    have e : n + 1 + k = (n + k) + 1 := by omega
    rw [e]
    rw [run] at h ⊢
    cases ha : act x with
    | none => rw [ha] at h; exact absurd h (by simp)
    | some q =>
      rw [ha] at h
      match q with
      | .inl y => exact ih k y r h
      | .inr (.inl r') => exact h
      | .inr (.inr y) =>
        dsimp only at h ⊢
        cases hy : run n y with
        | none => rw [hy] at h; exact absurd h (by simp)
        | some r1 =>
          rw [hy] at h
          rw [ih k y r1 hy]
          dsimp only at h ⊢
          cases hf : aft x r1 with
          | none => rw [hf] at h; exact absurd h (by simp)
          | some q2 =>
            rw [hf] at h
            match q2 with
            | .inl z => exact ih k z r h
            | .inr r2 => exact h
theorem run_le {n k : Nat} (h : n ≤ k) {x : mC} {r : mR} (hr : run n x = some r) : run k x = some r := by
  have := run_mono n (k - n) x r hr
  rwa [show n + (k - n) = k by omega] at this
/-- it comes to r -/
def Ev (x : mC) (r : mR) : Prop := ∃ n, run n x = some r
theorem Ev.det {x : mC} {r r' : mR} (h : Ev x r) (h' : Ev x r') : r = r' := by
  obtain ⟨n, h⟩ := h
  obtain ⟨k, h'⟩ := h'
  have a := run_le (Nat.le_max_left n k) h
  have b := run_le (Nat.le_max_right n k) h'
  exact Option.some.inj (a.symm.trans b)
theorem Ev.next {x y : mC} {r : mR} (ha : act x = some (.inl y)) (h : Ev y r) : Ev x r := by
  obtain ⟨n, h⟩ := h
  exact ⟨n + 1, by rw [run, ha]; exact h⟩
theorem Ev.out {x : mC} {r : mR} (ha : act x = some (.inr (.inl r))) : Ev x r := ⟨1, by rw [run, ha]⟩
theorem Ev.call {x y z : mC} {r r1 : mR} (ha : act x = some (.inr (.inr y))) (h1 : Ev y r1) (hf : aft x r1 = some (.inl z)) (h : Ev z r) : Ev x r := by
  obtain ⟨n, h⟩ := h
  obtain ⟨k, h1⟩ := h1
  refine ⟨max n k + 1, ?_⟩
  rw [run, ha]
  dsimp only
  rw [run_le (Nat.le_max_right n k) h1]
  dsimp only
  rw [hf]
  exact run_le (Nat.le_max_left n k) h
theorem Ev.callOut {x y : mC} {r r1 : mR} (ha : act x = some (.inr (.inr y))) (h1 : Ev y r1) (hf : aft x r1 = some (.inr r)) : Ev x r := by
  obtain ⟨k, h1⟩ := h1
  refine ⟨k + 1, ?_⟩
  rw [run, ha]
  dsimp only
  rw [h1]
  dsimp only
  rw [hf]
