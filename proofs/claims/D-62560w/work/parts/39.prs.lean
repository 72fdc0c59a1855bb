/-! THE PARSER, as plain functions: tokens to steps (step, number); jumps are relative: how many steps are skipped -/
abbrev Sp : Type := Int × Int
/-- an error (code, place), or: shape (1 a variable, 2 a property, 0 other), steps, next token -/
abbrev PRes : Type := (Int × Int) ⊕ (Nat × List Sp × Nat)
section prs
variable (f : Int → Int) (n : Int) (T : List (Int × Int × Int))
def tkd (i : Nat) : Int := (T.getD i (36, n, 0)).1
def tpl (i : Nat) : Int := (T.getD i (36, n, 0)).2.1
def tvl (i : Nat) : Int := tkv f n (tkd n T i) (tpl n T i)
def tsc (i : Nat) : Int := tks f (tkd n T i) (tpl n T i)
def fixd (v : Int) : Bool := decide (v = 407354 ∨ v = 3217595 ∨ v = 291207)
def fixS (v : Int) : Int := if v = 407354 then 6 else if v = 3217595 then 7 else 8
def bad2 (i : Nat) : PRes := .inl (2, tpl n T i)
def cllS (need name : Int) (a : List Sp) (c : Nat) : List Sp := [(need, (a.length : Int) + 1)] ++ a ++ [(15, 4 * name + c)]
/-- arguments behind the bracket: their steps, how many, the next token -/
def argsR (inn : Nat → PRes) (i : Nat) : (Int × Int) ⊕ (List Sp × Nat × Nat) :=
  if tkd n T i = 41 then .inr ([], 0, i + 1) else match inn i with
  | .inl e => .inl e
  | .inr q => if tkd n T q.2.2 = 41 then .inr (q.2.1, 1, q.2.2 + 1) else if tkd n T q.2.2 = 44 then (match inn (q.2.2 + 1) with
    | .inl e => .inl e
    | .inr q2 => if tkd n T q2.2.2 = 41 then .inr (q.2.1 ++ q2.2.1, 2, q2.2.2 + 1) else .inl (2, tpl n T q2.2.2)) else .inl (2, tpl n T q.2.2)
def firstR (inn : Nat → PRes) (i : Nat) : PRes :=
  if tkd n T i = 40 then (match inn (i + 1) with
    | .inl e => .inl e
    | .inr q => if tkd n T q.2.2 = 41 then .inr (0, q.2.1, q.2.2 + 1) else bad2 n T q.2.2)
  else if tkd n T i = 35 then (if tkd n T (i + 1) = 97 then .inr (1, [(9, tvl f n T (i + 1))], i + 2) else bad2 n T (i + 1))
  else if tkd n T i = 97 then (if fixd (tvl f n T i) = true then .inr (0, [(fixS (tvl f n T i), 0)], i + 1)
    else if tkd n T (i + 1) = 40 then (match argsR n T inn (i + 2) with
      | .inl e => .inl e
      | .inr q => .inr (0, [(10, 0)] ++ cllS 13 (tvl f n T i) q.1 q.2.1, q.2.2))
    else .inr (2, [(10, 0), (11, tvl f n T i)], i + 1))
  else if tkd n T i = 48 then .inr (0, [(1, tvl f n T i)], i + 1)
  else if tkd n T i = 11776 then .inr (0, [(1 + tsc f n T i, tvl f n T i)], i + 1)
  else if tkd n T i = 39 then .inr (0, [(5, tvl f n T i)], i + 1)
  else bad2 n T i
def chainL (inn : Nat → PRes) : Nat → Nat × List Sp × Nat → PRes
  | 0, q => .inr q
  | m + 1, q => if tkd n T q.2.2 = 46 ∨ tkd n T q.2.2 = 16174 then
      (if tkd n T (q.2.2 + 1) = 97 then
        (if tkd n T (q.2.2 + 2) = 40 then (match argsR n T inn (q.2.2 + 3) with
          | .inl e => .inl e
          | .inr a => chainL inn m (0, q.2.1 ++ cllS (if tkd n T q.2.2 = 16174 then 14 else 13) (tvl f n T (q.2.2 + 1)) a.1 a.2.1, a.2.2))
        else chainL inn m (2, q.2.1 ++ [(if tkd n T q.2.2 = 16174 then 12 else 11, tvl f n T (q.2.2 + 1))], q.2.2 + 2))
      else bad2 n T (q.2.2 + 1))
    else .inr q
def chainR (inn : Nat → PRes) (i : Nat) : PRes := match firstR f n T inn i with
  | .inl e => .inl e
  | .inr q => chainL f n T inn 42 q
def signR (inn : Nat → PRes) (i : Nat) : PRes :=
  if tkd n T i = 45 ∨ tkd n T i = 33 then (match chainR f n T inn (i + 1) with
    | .inl e => .inl e
    | .inr q => .inr (0, q.2.1 ++ [(if tkd n T i = 33 then 31 else 30, 0)], q.2.2))
  else chainR f n T inn i
def lvlK (k : Int) : Int := if k = 43 ∨ k = 45 then 4 else if k = 42 ∨ k = 47 ∨ k = 37 then 5 else if k = 60 ∨ k = 62 ∨ k = 15421 ∨ k = 15933 ∨ k = 15677 ∨ k = 8509 then 3 else if k = 9766 then 2 else if k = 31868 then 1 else 0
def opS (k : Int) : Int := if k = 43 then 16 else if k = 45 then 17 else if k = 42 then 18 else if k = 47 then 19 else if k = 37 then 20 else if k = 60 then 21 else if k = 62 then 22 else if k = 15421 then 23 else if k = 15933 then 24 else if k = 15677 then 25 else 26
/-- one that waits: level, step, its left side -/
abbrev Wtg : Type := Int × Int × List Sp
def join1 (w : Wtg) (r : List Sp) : List Sp := if w.1 ≤ 2 then w.2.2 ++ [(if w.1 = 2 then 32 else 33, (r.length : Int) + 1)] ++ r ++ [(34, 0)] else w.2.2 ++ r ++ [(w.2.1, 0)]
/-- those that wait (the latest first) and go first -/
def redu (lv : Int) : List Wtg → List Sp → List Wtg × List Sp
  | [], r => ([], r)
  | w :: ws, r => if w.1 > lv ∨ w.1 = lv ∧ ¬ lv = 3 then redu lv ws (join1 w r) else (w :: ws, r)
def top3 (ws : List Wtg) : Bool := match ws with
  | w :: _ => decide (w.1 = 3)
  | [] => false
def eithL (inn : Nat → PRes) : Nat → List Wtg → Nat × List Sp × Nat → PRes
  | 0, _, q => .inr q
  | m + 1, ws, q =>
    let lv := lvlK (tkd n T q.2.2)
    let a := redu lv ws q.2.1
    if lv = 0 ∨ lv = 3 ∧ top3 a.1 = true then .inr (if ws = [] then q.1 else 0, (redu 0 a.1 a.2).2, q.2.2)
    else match signR f n T inn (q.2.2 + 1) with
      | .inl e => .inl e
      | .inr q2 => eithL inn m ((lv, opS (tkd n T q.2.2), a.2) :: a.1) q2
def eithR (inn : Nat → PRes) (i : Nat) : PRes := match signR f n T inn i with
  | .inl e => .inl e
  | .inr q => eithL f n T inn 42 [] q
def choiR (inn : Nat → PRes) (i : Nat) : PRes := match eithR f n T inn i with
  | .inl e => .inl e
  | .inr q => if tkd n T q.2.2 = 16186 then (match inn (q.2.2 + 1) with
      | .inl e => .inl e
      | .inr r => .inr (0, q.2.1 ++ [(37, (r.2.1.length : Int))] ++ r.2.1, r.2.2))
    else if tkd n T q.2.2 = 63 then (match inn (q.2.2 + 1) with
      | .inl e => .inl e
      | .inr y => if tkd n T y.2.2 = 58 then (match inn (y.2.2 + 1) with
          | .inl e => .inl e
          | .inr z => .inr (0, q.2.1 ++ [(35, (y.2.1.length : Int) + 1)] ++ y.2.1 ++ [(36, (z.2.1.length : Int))] ++ z.2.1, z.2.2))
        else bad2 n T y.2.2)
    else .inr q
/-- a choice within another one: r more may be opened -/
def innR : Nat → Nat → PRes
  | 0, i => .inl (3, tpl n T i)
  | r + 1, i => choiR f n T (innR r) i
/-- the whole phrase's steps -/
def phrR : (Int × Int) ⊕ List Sp := match choiR f n T (innR f n T 4) 0 with
  | .inl e => .inl e
  | .inr q => if tkd n T q.2.2 = 61 then
      (if q.1 = 0 then .inl (2, tpl n T q.2.2) else match choiR f n T (innR f n T 4) (q.2.2 + 1) with
        | .inl e => .inl e
        | .inr r => if tkd n T r.2.2 = 36 then .inr (if q.1 = 1 then r.2.1 ++ [(38, (q.2.1.getLast?.getD (0, 0)).2)] else q.2.1.dropLast ++ [(39, (q.2.1.getLast?.getD (0, 0)).2)] ++ r.2.1 ++ [(40, (q.2.1.getLast?.getD (0, 0)).2)]) else .inl (2, tpl n T r.2.2))
    else if tkd n T q.2.2 = 36 then .inr q.2.1 else .inl (2, tpl n T q.2.2)
end prs

