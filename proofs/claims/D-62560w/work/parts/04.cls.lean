set_option maxRecDepth 100000
def cNms : List String := ["", "PhraseDesk", "PhraseDesk$Reader", "PhraseDesk$Value", "PhraseDesk$Type", "PhraseDesk$Field", "PhraseDesk$Method", "PhraseDesk$Thing", "PhraseDesk$Variable", "PhraseDesk$Literal", "PhraseDesk$Named", "PhraseDesk$Root", "PhraseDesk$Property", "PhraseDesk$Call", "PhraseDesk$Sign", "PhraseDesk$Pair", "PhraseDesk$Logic", "PhraseDesk$Choice", "PhraseDesk$Else", "PhraseDesk$Assign", "java/util/ArrayList", "PhraseDeskModel", "java/lang/IllegalArgumentException", "java/lang/IllegalStateException", "java/lang/String", "PhraseDesk$Op", "PhraseDeskLaw", "java/lang/Object", "java/util/AbstractList", "java/util/AbstractCollection", "java/lang/Record", "java/util/Objects", "jdk/internal/util/Preconditions", "jdk/internal/util/ArraysSupport", "java/util/Arrays", "java/lang/Math", "java/lang/StringLatin1", "java/lang/Integer", "java/lang/Enum", "PhraseDesk$Node", "", "", "", "", "", "", "", "", "", "", "[I", "[Z", "[C", "[B", "[J", "[D", "[Ljava/lang/Object;", "[LPhraseDesk$Node;", "[LPhraseDesk$Op;", "[LPhraseDesk$Value;", "[[Z"]
def cNm (c : Nat) : String := cNms.getD c ""
def cFs : List (List (String × String × String × Bool)) := [[], [("PhraseDesk", "reader", "LPhraseDesk$Reader;", true), ("PhraseDesk", "programs", "Ljava/util/ArrayList;", true), ("PhraseDesk", "types", "Ljava/util/ArrayList;", true), ("PhraseDesk", "things", "Ljava/util/ArrayList;", true), ("PhraseDesk", "variables", "Ljava/util/ArrayList;", true), ("PhraseDesk", "converters", "[[Z", true), ("PhraseDesk", "version", "I", false), ("PhraseDesk", "stack", "[LPhraseDesk$Value;", true), ("PhraseDesk", "top", "I", false), ("PhraseDesk", "root", "LPhraseDesk$Thing;", false), ("PhraseDesk", "rootNumber", "I", false), ("PhraseDesk", "failure", "I", false), ("PhraseDesk", "result", "LPhraseDesk$Value;", true), ("PhraseDesk", "work", "LPhraseDesk$Value;", true)], [("PhraseDesk$Reader", "text", "[C", true), ("PhraseDesk$Reader", "size", "I", false), ("PhraseDesk$Reader", "kinds", "[I", true), ("PhraseDesk$Reader", "places", "[I", true), ("PhraseDesk$Reader", "lengths", "[I", true), ("PhraseDesk$Reader", "tokens", "I", false), ("PhraseDesk$Reader", "at", "I", false), ("PhraseDesk$Reader", "depth", "I", false), ("PhraseDesk$Reader", "error", "I", false), ("PhraseDesk$Reader", "lefts", "[LPhraseDesk$Node;", true), ("PhraseDesk$Reader", "strengths", "[I", true), ("PhraseDesk$Reader", "ops", "[LPhraseDesk$Op;", true), ("PhraseDesk$Reader", "waiting", "I", false), ("PhraseDesk$Reader", "place", "I", false)], [("PhraseDesk$Value", "kind", "I", false), ("PhraseDesk$Value", "whole", "I", false), ("PhraseDesk$Value", "real", "D", false), ("PhraseDesk$Value", "text", "[C", true), ("PhraseDesk$Value", "size", "I", false)], [("PhraseDesk$Type", "number", "I", true), ("PhraseDesk$Type", "parent", "LPhraseDesk$Type;", true), ("PhraseDesk$Type", "fields", "Ljava/util/ArrayList;", true), ("PhraseDesk$Type", "methods", "Ljava/util/ArrayList;", true)], [("PhraseDesk$Field", "name", "I", true), ("PhraseDesk$Field", "type", "I", true)], [("PhraseDesk$Method", "name", "I", true), ("PhraseDesk$Method", "types", "[I", true), ("PhraseDesk$Method", "action", "I", true), ("PhraseDesk$Method", "number", "I", true)], [("PhraseDesk$Thing", "type", "LPhraseDesk$Type;", true), ("PhraseDesk$Thing", "values", "[LPhraseDesk$Value;", true)], [("PhraseDesk$Variable", "name", "I", true), ("PhraseDesk$Variable", "value", "LPhraseDesk$Value;", true)], [("PhraseDesk$Literal", "value", "LPhraseDesk$Value;", true)], [("PhraseDesk$Named", "name", "I", true)], [], [("PhraseDesk$Property", "of", "LPhraseDesk$Node;", true), ("PhraseDesk$Property", "name", "I", true), ("PhraseDesk$Property", "safe", "Z", true)], [("PhraseDesk$Call", "of", "LPhraseDesk$Node;", true), ("PhraseDesk$Call", "name", "I", true), ("PhraseDesk$Call", "safe", "Z", true), ("PhraseDesk$Call", "arguments", "[LPhraseDesk$Node;", true), ("PhraseDesk$Call", "found", "LPhraseDesk$Method;", false), ("PhraseDesk$Call", "foundClass", "I", false), ("PhraseDesk$Call", "foundKinds", "I", false), ("PhraseDesk$Call", "version", "I", false)], [("PhraseDesk$Sign", "of", "LPhraseDesk$Node;", true), ("PhraseDesk$Sign", "not", "Z", true)], [("PhraseDesk$Pair", "op", "LPhraseDesk$Op;", true), ("PhraseDesk$Pair", "left", "LPhraseDesk$Node;", true), ("PhraseDesk$Pair", "right", "LPhraseDesk$Node;", true)], [("PhraseDesk$Logic", "and", "Z", true), ("PhraseDesk$Logic", "left", "LPhraseDesk$Node;", true), ("PhraseDesk$Logic", "right", "LPhraseDesk$Node;", true)], [("PhraseDesk$Choice", "test", "LPhraseDesk$Node;", true), ("PhraseDesk$Choice", "yes", "LPhraseDesk$Node;", true), ("PhraseDesk$Choice", "no", "LPhraseDesk$Node;", true)], [("PhraseDesk$Else", "left", "LPhraseDesk$Node;", true), ("PhraseDesk$Else", "right", "LPhraseDesk$Node;", true)], [("PhraseDesk$Assign", "left", "LPhraseDesk$Node;", true), ("PhraseDesk$Assign", "right", "LPhraseDesk$Node;", true)], [("java/util/AbstractList", "modCount", "I", false), ("java/util/ArrayList", "elementData", "[Ljava/lang/Object;", false), ("java/util/ArrayList", "size", "I", false)], [("PhraseDeskModel", "threw", "I", false), ("PhraseDeskModel", "size", "I", false), ("PhraseDeskModel", "letters", "[I", true), ("PhraseDeskModel", "tokens", "I", false), ("PhraseDeskModel", "tokenKind", "[I", true), ("PhraseDeskModel", "tokenAt", "[I", true), ("PhraseDeskModel", "token", "[J", true), ("PhraseDeskModel", "scale", "[I", true), ("PhraseDeskModel", "error", "I", false), ("PhraseDeskModel", "where", "I", false), ("PhraseDeskModel", "programs", "I", false), ("PhraseDeskModel", "step", "[I", true), ("PhraseDeskModel", "with", "[J", true), ("PhraseDeskModel", "lengths", "[I", true), ("PhraseDeskModel", "next", "I", false), ("PhraseDeskModel", "start", "I", false), ("PhraseDeskModel", "written", "I", false), ("PhraseDeskModel", "operand", "Z", false), ("PhraseDeskModel", "done", "Z", false), ("PhraseDeskModel", "frames", "I", false), ("PhraseDeskModel", "frame", "[I", true), ("PhraseDeskModel", "base", "[I", true), ("PhraseDeskModel", "sign", "[I", true), ("PhraseDeskModel", "patch", "[I", true), ("PhraseDeskModel", "callName", "[I", true), ("PhraseDeskModel", "callCount", "[I", true), ("PhraseDeskModel", "closed", "[Z", true), ("PhraseDeskModel", "plain", "[Z", true), ("PhraseDeskModel", "aims", "[Z", true), ("PhraseDeskModel", "waiting", "I", false), ("PhraseDeskModel", "operation", "[I", true), ("PhraseDeskModel", "level", "[I", true), ("PhraseDeskModel", "jump", "[I", true), ("PhraseDeskModel", "target", "I", false), ("PhraseDeskModel", "targetStep", "I", false), ("PhraseDeskModel", "classes", "I", false), ("PhraseDeskModel", "parent", "[I", true), ("PhraseDeskModel", "fields", "[I", true), ("PhraseDeskModel", "fieldName", "[I", true), ("PhraseDeskModel", "fieldType", "[I", true), ("PhraseDeskModel", "methods", "[I", true), ("PhraseDeskModel", "methodName", "[I", true), ("PhraseDeskModel", "one", "[I", true), ("PhraseDeskModel", "two", "[I", true), ("PhraseDeskModel", "action", "[I", true), ("PhraseDeskModel", "methodNumber", "[I", true), ("PhraseDeskModel", "converts", "[Z", true), ("PhraseDeskModel", "objects", "I", false), ("PhraseDeskModel", "classOf", "[I", true), ("PhraseDeskModel", "variables", "I", false), ("PhraseDeskModel", "variable", "[I", true), ("PhraseDeskModel", "kind", "[I", true), ("PhraseDeskModel", "a", "[J", true), ("PhraseDeskModel", "b", "[J", true), ("PhraseDeskModel", "real", "[D", true), ("PhraseDeskModel", "top", "I", false), ("PhraseDeskModel", "failure", "I", false), ("PhraseDeskModel", "root", "I", false), ("PhraseDeskModel", "built", "[I", true), ("PhraseDeskModel", "builtSize", "I", false)], [], [], [("java/lang/String", "value", "[B", true), ("java/lang/String", "coder", "B", true), ("java/lang/String", "hash", "I", false), ("java/lang/String", "hashIsZero", "Z", false)], [("java/lang/Enum", "ordinal", "I", true)]]
def cSs : List (List Nat) := [[], [3, 3, 3, 3, 3, 3, 0, 3, 0, 3, 0, 0, 3, 3], [3, 0, 3, 3, 3, 0, 0, 0, 0, 3, 3, 3, 0, 0], [0, 0, 2, 3, 0], [0, 3, 3, 3], [0, 0], [0, 3, 0, 0], [3, 3], [0, 3], [3], [0], [], [3, 0, 4], [3, 0, 4, 3, 3, 0, 0, 0], [3, 4], [3, 3, 3], [4, 3, 3], [3, 3, 3], [3, 3], [3, 3], [0, 3, 0], [0, 0, 3, 0, 3, 3, 3, 3, 0, 0, 0, 3, 3, 3, 0, 0, 0, 4, 4, 0, 3, 3, 3, 3, 3, 3, 3, 3, 3, 0, 3, 3, 3, 0, 0, 0, 3, 3, 3, 3, 3, 3, 3, 3, 3, 3, 3, 0, 3, 0, 3, 3, 3, 3, 3, 0, 0, 0, 3, 0], [], [], [3, 6, 0, 4], [0]]
def cT (c : Nat) : u_T := fun k => (cFs.getD c []).getD k ("", "", "", false)
def cN (c : Nat) : Nat := (cFs.getD c []).length
def cS (c k : Nat) : Nat := (cSs.getD c []).getD k 9
/-- the type of an array's places, by its tag -/
def aty (t : Nat) : FieldType := match t with
  | 50 => .int
  | 51 => .boolean
  | 52 => .char
  | 53 => .byte
  | 54 => .long
  | 55 => .double
  | 56 => .object "java/lang/Object"
  | 57 => .object "PhraseDesk$Node"
  | 58 => .object "PhraseDesk$Op"
  | 59 => .object "PhraseDesk$Value"
  | 60 => .array .boolean
  | 62 => .int
  | _ => .object "java/lang/Object"
/-- the words that lay out a class -/
theorem cw1 : ∀ w ∈ u_ws (cNm 1) (cT 1) (cN 1), w ∈ lw_all := lw_in (u_ws (cNm 1) (cT 1) (cN 1)) [651, 653, 655, 657, 659, 661, 663, 665, 667, 669, 671, 673, 675, 677] (by decide +kernel) (by decide +kernel)
theorem cw2 : ∀ w ∈ u_ws (cNm 2) (cT 2) (cN 2), w ∈ lw_all := lw_in (u_ws (cNm 2) (cT 2) (cN 2)) [211, 213, 215, 217, 219, 221, 223, 225, 227, 229, 231, 233, 235, 237] (by decide +kernel) (by decide +kernel)
theorem cw3 : ∀ w ∈ u_ws (cNm 3) (cT 3) (cN 3), w ∈ lw_all := lw_in (u_ws (cNm 3) (cT 3) (cN 3)) [617, 619, 621, 623, 625] (by decide +kernel) (by decide +kernel)
theorem cw4 : ∀ w ∈ u_ws (cNm 4) (cT 4) (cN 4), w ∈ lw_all := lw_in (u_ws (cNm 4) (cT 4) (cN 4)) [1202, 1204, 1206, 1208] (by decide +kernel) (by decide +kernel)
theorem cw5 : ∀ w ∈ u_ws (cNm 5) (cT 5) (cN 5), w ∈ lw_all := lw_in (u_ws (cNm 5) (cT 5) (cN 5)) [1242, 1244] (by decide +kernel) (by decide +kernel)
theorem cw6 : ∀ w ∈ u_ws (cNm 6) (cT 6) (cN 6), w ∈ lw_all := lw_in (u_ws (cNm 6) (cT 6) (cN 6)) [1269, 1271, 1273, 1275] (by decide +kernel) (by decide +kernel)
theorem cw7 : ∀ w ∈ u_ws (cNm 7) (cT 7) (cN 7), w ∈ lw_all := lw_in (u_ws (cNm 7) (cT 7) (cN 7)) [1297, 1299] (by decide +kernel) (by decide +kernel)
theorem cw8 : ∀ w ∈ u_ws (cNm 8) (cT 8) (cN 8), w ∈ lw_all := lw_in (u_ws (cNm 8) (cT 8) (cN 8)) [1598, 1600] (by decide +kernel) (by decide +kernel)
theorem cw9 : ∀ w ∈ u_ws (cNm 9) (cT 9) (cN 9), w ∈ lw_all := lw_in (u_ws (cNm 9) (cT 9) (cN 9)) [946] (by decide +kernel) (by decide +kernel)
theorem cw10 : ∀ w ∈ u_ws (cNm 10) (cT 10) (cN 10), w ∈ lw_all := lw_in (u_ws (cNm 10) (cT 10) (cN 10)) [843] (by decide +kernel) (by decide +kernel)
theorem cw11 : ∀ w ∈ u_ws (cNm 11) (cT 11) (cN 11), w ∈ lw_all := fun w h => absurd h (by simp [u_ws, cN, cFs])
theorem cw12 : ∀ w ∈ u_ws (cNm 12) (cT 12) (cN 12), w ∈ lw_all := lw_in (u_ws (cNm 12) (cT 12) (cN 12)) [929, 931, 933] (by decide +kernel) (by decide +kernel)
theorem cw13 : ∀ w ∈ u_ws (cNm 13) (cT 13) (cN 13), w ∈ lw_all := lw_in (u_ws (cNm 13) (cT 13) (cN 13)) [903, 905, 907, 909, 911, 913, 915, 917] (by decide +kernel) (by decide +kernel)
theorem cw14 : ∀ w ∈ u_ws (cNm 14) (cT 14) (cN 14), w ∈ lw_all := lw_in (u_ws (cNm 14) (cT 14) (cN 14)) [985, 987] (by decide +kernel) (by decide +kernel)
theorem cw15 : ∀ w ∈ u_ws (cNm 15) (cT 15) (cN 15), w ∈ lw_all := lw_in (u_ws (cNm 15) (cT 15) (cN 15)) [1043, 1045, 1047] (by decide +kernel) (by decide +kernel)
theorem cw16 : ∀ w ∈ u_ws (cNm 16) (cT 16) (cN 16), w ∈ lw_all := lw_in (u_ws (cNm 16) (cT 16) (cN 16)) [1027, 1029, 1031] (by decide +kernel) (by decide +kernel)
theorem cw17 : ∀ w ∈ u_ws (cNm 17) (cT 17) (cN 17), w ∈ lw_all := lw_in (u_ws (cNm 17) (cT 17) (cN 17)) [1086, 1088, 1090] (by decide +kernel) (by decide +kernel)
theorem cw18 : ∀ w ∈ u_ws (cNm 18) (cT 18) (cN 18), w ∈ lw_all := lw_in (u_ws (cNm 18) (cT 18) (cN 18)) [1072, 1074] (by decide +kernel) (by decide +kernel)
theorem cw19 : ∀ w ∈ u_ws (cNm 19) (cT 19) (cN 19), w ∈ lw_all := lw_in (u_ws (cNm 19) (cT 19) (cN 19)) [1101, 1103] (by decide +kernel) (by decide +kernel)
theorem cw20 : ∀ w ∈ u_ws (cNm 20) (cT 20) (cN 20), w ∈ lw_all := lw_in (u_ws (cNm 20) (cT 20) (cN 20)) [265, 261, 263] (by decide +kernel) (by decide +kernel)
theorem cw21 : ∀ w ∈ u_ws (cNm 21) (cT 21) (cN 21), w ∈ lw_all := lw_in (u_ws (cNm 21) (cT 21) (cN 21)) [1708, 1710, 1712, 1714, 1716, 1718, 1720, 1722, 1724, 1726, 1728, 1730, 1732, 1734, 1736, 1738, 1740, 1742, 1744, 1746, 1748, 1750, 1752, 1754, 1756, 1758, 1760, 1762, 1764, 1766, 1768, 1770, 1772, 1774, 1776, 1778, 1780, 1782, 1784, 1786, 1788, 1790, 1792, 1794, 1796, 1798, 1800, 1802, 1804, 1806, 1808, 1810, 1812, 1814, 1816, 1818, 1820, 1822, 1824, 1826] (by decide +kernel) (by decide +kernel)
theorem cw24 : ∀ w ∈ u_ws (cNm 24) (cT 24) (cN 24), w ∈ lw_all := lw_in (u_ws (cNm 24) (cT 24) (cN 24)) [576, 578, 580, 582] (by decide +kernel) (by decide +kernel)
/-- classes whose fields are laid out by words -/
def laid (c : Nat) : Bool := (decide (1 ≤ c) && decide (c ≤ 21)) || c == 24
theorem cw : ∀ c, laid c = true → ∀ w ∈ u_ws (cNm c) (cT c) (cN c), w ∈ lw_all := by
  intro c hc
  have h : c < 25 := by
    unfold laid at hc
    simp only [Bool.or_eq_true, Bool.and_eq_true, decide_eq_true_eq, beq_iff_eq] at hc
    omega
  match c, h, hc with
  | 0, _, hc => exact absurd hc (by decide)
  | 1, _, _ => exact cw1
  | 2, _, _ => exact cw2
  | 3, _, _ => exact cw3
  | 4, _, _ => exact cw4
  | 5, _, _ => exact cw5
  | 6, _, _ => exact cw6
  | 7, _, _ => exact cw7
  | 8, _, _ => exact cw8
  | 9, _, _ => exact cw9
  | 10, _, _ => exact cw10
  | 11, _, _ => exact cw11
  | 12, _, _ => exact cw12
  | 13, _, _ => exact cw13
  | 14, _, _ => exact cw14
  | 15, _, _ => exact cw15
  | 16, _, _ => exact cw16
  | 17, _, _ => exact cw17
  | 18, _, _ => exact cw18
  | 19, _, _ => exact cw19
  | 20, _, _ => exact cw20
  | 21, _, _ => exact cw21
  | 22, _, hc => exact absurd hc (by decide)
  | 23, _, hc => exact absurd hc (by decide)
  | 24, _, _ => exact cw24
-- instantiable: {1: (14, 176), 2: (14, 184), 20: (3, 243), 22: (6, 276), 24: (4, 498), 3: (5, 590), 23: (6, 724), 10: (1, 830), 13: (8, 879), 11: (0, 881), 12: (3, 921), 9: (1, 937), 14: (2, 978), 16: (3, 1019), 15: (3, 1035), 18: (2, 1065), 17: (3, 1078), 19: (2, 1094), 4: (4, 1174), 5: (2, 1235), 6: (4, 1255), 7: (2, 1286), 8: (2, 1586), 21: (60, 1643)}
def cSl : List Nat := [0, 14, 14, 5, 4, 2, 4, 2, 2, 1, 1, 0, 3, 8, 2, 3, 3, 3, 2, 2, 3, 60, 6, 6, 4, 0]
/-- the number of slots of an object of the class -/
def cSz (c : Nat) : Nat := cSl.getD c 0
theorem ci1 : Cond.instantiable (cNm 1) (cSz 1) ∈ lw_all := (lw_g (lw_at lw_m1 45 rfl) rfl)
theorem ci2 : Cond.instantiable (cNm 2) (cSz 2) ∈ lw_all := (lw_g (lw_at lw_m1 53 rfl) rfl)
theorem ci3 : Cond.instantiable (cNm 3) (cSz 3) ∈ lw_all := (lw_g (lw_at lw_m2 219 rfl) rfl)
theorem ci4 : Cond.instantiable (cNm 4) (cSz 4) ∈ lw_all := (lw_g (lw_at lw_m5 83 rfl) rfl)
theorem ci5 : Cond.instantiable (cNm 5) (cSz 5) ∈ lw_all := (lw_g (lw_at lw_m5 144 rfl) rfl)
theorem ci6 : Cond.instantiable (cNm 6) (cSz 6) ∈ lw_all := (lw_g (lw_at lw_m5 164 rfl) rfl)
theorem ci7 : Cond.instantiable (cNm 7) (cSz 7) ∈ lw_all := (lw_g (lw_at lw_m5 195 rfl) rfl)
theorem ci8 : Cond.instantiable (cNm 8) (cSz 8) ∈ lw_all := (lw_g (lw_at lw_m7 15 rfl) rfl)
theorem ci9 : Cond.instantiable (cNm 9) (cSz 9) ∈ lw_all := (lw_g (lw_at lw_m4 86 rfl) rfl)
theorem ci10 : Cond.instantiable (cNm 10) (cSz 10) ∈ lw_all := (lw_g (lw_at lw_m3 219 rfl) rfl)
theorem ci11 : Cond.instantiable (cNm 11) (cSz 11) ∈ lw_all := (lw_g (lw_at lw_m4 30 rfl) rfl)
theorem ci12 : Cond.instantiable (cNm 12) (cSz 12) ∈ lw_all := (lw_g (lw_at lw_m4 70 rfl) rfl)
theorem ci13 : Cond.instantiable (cNm 13) (cSz 13) ∈ lw_all := (lw_g (lw_at lw_m4 28 rfl) rfl)
theorem ci14 : Cond.instantiable (cNm 14) (cSz 14) ∈ lw_all := (lw_g (lw_at lw_m4 127 rfl) rfl)
theorem ci15 : Cond.instantiable (cNm 15) (cSz 15) ∈ lw_all := (lw_g (lw_at lw_m4 184 rfl) rfl)
theorem ci16 : Cond.instantiable (cNm 16) (cSz 16) ∈ lw_all := (lw_g (lw_at lw_m4 168 rfl) rfl)
theorem ci17 : Cond.instantiable (cNm 17) (cSz 17) ∈ lw_all := (lw_g (lw_at lw_m4 227 rfl) rfl)
theorem ci18 : Cond.instantiable (cNm 18) (cSz 18) ∈ lw_all := (lw_g (lw_at lw_m4 214 rfl) rfl)
theorem ci19 : Cond.instantiable (cNm 19) (cSz 19) ∈ lw_all := (lw_g (lw_at lw_m5 3 rfl) rfl)
theorem ci20 : Cond.instantiable (cNm 20) (cSz 20) ∈ lw_all := (lw_g (lw_at lw_m1 112 rfl) rfl)
theorem ci21 : Cond.instantiable (cNm 21) (cSz 21) ∈ lw_all := (lw_g (lw_at lw_m7 72 rfl) rfl)
theorem ci22 : Cond.instantiable (cNm 22) (cSz 22) ∈ lw_all := (lw_g (lw_at lw_m1 145 rfl) rfl)
theorem ci23 : Cond.instantiable (cNm 23) (cSz 23) ∈ lw_all := (lw_g (lw_at lw_m3 113 rfl) rfl)
theorem ci24 : Cond.instantiable (cNm 24) (cSz 24) ∈ lw_all := (lw_g (lw_at lw_m2 127 rfl) rfl)
theorem cj1 : Cond.initialized (cNm 1) ∈ lw_all := (lw_g (lw_at lw_m1 1 rfl) rfl)
theorem cj2 : Cond.initialized (cNm 2) ∈ lw_all := (lw_g (lw_at lw_m1 2 rfl) rfl)
theorem cj3 : Cond.initialized (cNm 3) ∈ lw_all := (lw_g (lw_at lw_m1 21 rfl) rfl)
theorem cj4 : Cond.initialized (cNm 4) ∈ lw_all := (lw_g (lw_at lw_m1 38 rfl) rfl)
theorem cj5 : Cond.initialized (cNm 5) ∈ lw_all := (lw_g (lw_at lw_m1 40 rfl) rfl)
theorem cj6 : Cond.initialized (cNm 6) ∈ lw_all := (lw_g (lw_at lw_m1 41 rfl) rfl)
theorem cj7 : Cond.initialized (cNm 7) ∈ lw_all := (lw_g (lw_at lw_m1 42 rfl) rfl)
theorem cj8 : Cond.initialized (cNm 8) ∈ lw_all := (lw_g (lw_at lw_m1 43 rfl) rfl)
theorem cj9 : Cond.initialized (cNm 9) ∈ lw_all := (lw_g (lw_at lw_m1 29 rfl) rfl)
theorem cj10 : Cond.initialized (cNm 10) ∈ lw_all := (lw_g (lw_at lw_m1 25 rfl) rfl)
theorem cj11 : Cond.initialized (cNm 11) ∈ lw_all := (lw_g (lw_at lw_m1 27 rfl) rfl)
theorem cj12 : Cond.initialized (cNm 12) ∈ lw_all := (lw_g (lw_at lw_m1 28 rfl) rfl)
theorem cj13 : Cond.initialized (cNm 13) ∈ lw_all := (lw_g (lw_at lw_m1 26 rfl) rfl)
theorem cj14 : Cond.initialized (cNm 14) ∈ lw_all := (lw_g (lw_at lw_m1 30 rfl) rfl)
theorem cj15 : Cond.initialized (cNm 15) ∈ lw_all := (lw_g (lw_at lw_m1 34 rfl) rfl)
theorem cj16 : Cond.initialized (cNm 16) ∈ lw_all := (lw_g (lw_at lw_m1 33 rfl) rfl)
theorem cj17 : Cond.initialized (cNm 17) ∈ lw_all := (lw_g (lw_at lw_m1 36 rfl) rfl)
theorem cj18 : Cond.initialized (cNm 18) ∈ lw_all := (lw_g (lw_at lw_m1 35 rfl) rfl)
theorem cj19 : Cond.initialized (cNm 19) ∈ lw_all := (lw_g (lw_at lw_m1 37 rfl) rfl)
theorem cj20 : Cond.initialized (cNm 20) ∈ lw_all := (lw_g (lw_at lw_m1 5 rfl) rfl)
theorem cj21 : Cond.initialized (cNm 21) ∈ lw_all := (lw_g (lw_at lw_m1 22 rfl) rfl)
theorem cj22 : Cond.initialized (cNm 22) ∈ lw_all := (lw_g (lw_at lw_m1 9 rfl) rfl)
theorem cj23 : Cond.initialized (cNm 23) ∈ lw_all := (lw_g (lw_at lw_m1 23 rfl) rfl)
theorem cj24 : Cond.initialized (cNm 24) ∈ lw_all := (lw_g (lw_at lw_m1 12 rfl) rfl)
theorem cj25 : Cond.initialized (cNm 25) ∈ lw_all := (lw_g (lw_at lw_m1 32 rfl) rfl)
theorem cj26 : Cond.initialized (cNm 26) ∈ lw_all := (lw_g (lw_at lw_m1 0 rfl) rfl)
-- no initialized for 27 java/lang/Object
theorem cj28 : Cond.initialized (cNm 28) ∈ lw_all := (lw_g (lw_at lw_m1 4 rfl) rfl)
theorem cj29 : Cond.initialized (cNm 29) ∈ lw_all := (lw_g (lw_at lw_m1 3 rfl) rfl)
theorem cj30 : Cond.initialized (cNm 30) ∈ lw_all := (lw_g (lw_at lw_m1 24 rfl) rfl)
theorem cj31 : Cond.initialized (cNm 31) ∈ lw_all := (lw_g (lw_at lw_m1 39 rfl) rfl)
theorem cj32 : Cond.initialized (cNm 32) ∈ lw_all := (lw_g (lw_at lw_m1 18 rfl) rfl)
theorem cj33 : Cond.initialized (cNm 33) ∈ lw_all := (lw_g (lw_at lw_m1 14 rfl) rfl)
theorem cj34 : Cond.initialized (cNm 34) ∈ lw_all := (lw_g (lw_at lw_m1 16 rfl) rfl)
theorem cj35 : Cond.initialized (cNm 35) ∈ lw_all := (lw_g (lw_at lw_m1 15 rfl) rfl)
theorem cj36 : Cond.initialized (cNm 36) ∈ lw_all := (lw_g (lw_at lw_m1 19 rfl) rfl)
theorem cj37 : Cond.initialized (cNm 37) ∈ lw_all := (lw_g (lw_at lw_m1 20 rfl) rfl)
theorem cj38 : Cond.initialized (cNm 38) ∈ lw_all := (lw_g (lw_at lw_m1 31 rfl) rfl)
-- no initialized for 39 PhraseDesk$Node
