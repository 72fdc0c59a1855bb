/-! every entry is what the class file says -/
set_option maxRecDepth 100000
def cndOf : ClassFile.Cond → Nat
  | .eq => 0
  | .ne => 1
  | .lt => 2
  | .ge => 3
  | .gt => 4
  | .le => 5
/-- links to Object.<init>; links to the interface's run -/
def lO : List (Nat × Nat) := [(4, 3), (1, 1), (8, 1), (29, 1), (21, 1), (2, 3), (3, 3), (9, 1), (7, 3), (13, 3), (30, 1)]
def lIf : List (Nat × Nat) := [(17, 21), (16, 22), (1, 171), (14, 19), (19, 18), (18, 18), (13, 30), (15, 20), (12, 23)]
/-- an entry fits an instruction: own class, place, instruction, length, entry -/
def okI (own : Nat) (rt : Option FieldType) (pc : Nat) (i : Instr) (len : Nat) (op : Nat) (v : Int32) (a b c n : Nat) (ts : List Nat) : Bool := match i with
  | .iload_n k => op == 1 && a == k.val && b == 0 && n == pc + 1 && len == 1
  | .iload k => op == 1 && a == k && b == 0 && n == pc + 2 && len == 2
  | .lload_n k => op == 1 && a == k.val && b == 1 && n == pc + 1 && len == 1
  | .lload k => op == 1 && a == k && b == 1 && n == pc + 2 && len == 2
  | .dload_n k => op == 1 && a == k.val && b == 2 && n == pc + 1 && len == 1
  | .dload k => op == 1 && a == k && b == 2 && n == pc + 2 && len == 2
  | .aload_n k => op == 1 && a == k.val && b == 3 && n == pc + 1 && len == 1
  | .aload k => op == 1 && a == k && b == 3 && n == pc + 2 && len == 2
  | .istore_n k => op == 2 && a == k.val && b == 0 && n == pc + 1 && len == 1
  | .istore k => op == 2 && a == k && b == 0 && n == pc + 2 && len == 2
  | .astore_n k => op == 2 && a == k.val && b == 3 && n == pc + 1 && len == 1
  | .astore k => op == 2 && a == k && b == 3 && n == pc + 2 && len == 2
  | .lstore_n k => op == 3 && a == k.val && b == 1 && n == pc + 1 && len == 1
  | .lstore k => op == 3 && a == k && b == 1 && n == pc + 2 && len == 2
  | .dstore_n k => op == 3 && a == k.val && b == 2 && n == pc + 1 && len == 1
  | .dstore k => op == 3 && a == k && b == 2 && n == pc + 2 && len == 2
  | .iconst k => op == 4 && v == Int32.ofInt k && n == pc + 1 && len == 1
  | .bipush k => op == 4 && v == (Int8.ofInt k).toInt32 && n == pc + 2 && len == 2
  | .sipush k => op == 4 && v == (Int16.ofInt k).toInt32 && n == pc + 3 && len == 3
  | .ldc x => n == pc + 2 && len == 2 && ((op == 4 && lKI.elem (own, x, v)) || (op == 8 && lKS.any (fun q => q.1 == own && q.2.1 == x && q.2.2.1 == a)) || (op == 8 && a == 14 && own == 34 && x == 110))
  | .ldc_w x => n == pc + 3 && len == 3 && ((op == 4 && lKI.elem (own, x, v)) || (op == 8 && lKS.any (fun q => q.1 == own && q.2.1 == x && q.2.2.1 == a)))
  | .lconst k => op == 5 && a == k.val && n == pc + 1 && len == 1
  | .dconst k => op == 6 && a == 0 && k.val == 0 && n == pc + 1 && len == 1
  | .ldc2_w x => n == pc + 3 && len == 3 && ((op == 5 && lKL.elem (own, x, a)) || (op == 6 && lKD.elem (own, x, a)))
  | .aconst_null => op == 7 && n == pc + 1 && len == 1
  | .getstatic x => n == pc + 3 && len == 3 && ((op == 8 && lS.any (fun q => q.1 == own && q.2.1 == x && q.2.2.1 == a && decide (a < 64))) || (op == 4 && v == 1 && lS.any (fun q => q.1 == own && q.2.1 == x && q.2.2.1 == 100)) || (op == 51 && lS.any (fun q => q.1 == own && q.2.1 == x && q.2.2.1 == 101)))
  | .iadd => op == 9 && a == 0 && n == pc + 1 && len == 1
  | .isub => op == 9 && a == 1 && n == pc + 1 && len == 1
  | .imul => op == 9 && a == 2 && n == pc + 1 && len == 1
  | .iand => op == 9 && a == 3 && n == pc + 1 && len == 1
  | .ishr => op == 9 && a == 4 && n == pc + 1 && len == 1
  | .ineg => op == 10 && a == 0 && n == pc + 1 && len == 1
  | .i2c => op == 10 && a == 1 && n == pc + 1 && len == 1
  | .idiv => op == 11 && a == 0 && n == pc + 1 && len == 1
  | .irem => op == 11 && a == 1 && n == pc + 1 && len == 1
  | .ladd => op == 12 && a == 0 && n == pc + 1 && len == 1
  | .lsub => op == 12 && a == 1 && n == pc + 1 && len == 1
  | .lmul => op == 12 && a == 2 && n == pc + 1 && len == 1
  | .land => op == 12 && a == 3 && n == pc + 1 && len == 1
  | .lor => op == 12 && a == 4 && n == pc + 1 && len == 1
  | .ldiv => op == 13 && a == 0 && n == pc + 1 && len == 1
  | .lrem => op == 13 && a == 1 && n == pc + 1 && len == 1
  | .lneg => op == 14 && n == pc + 1 && len == 1
  | .lshl => op == 15 && a == 0 && n == pc + 1 && len == 1
  | .lshr => op == 15 && a == 1 && n == pc + 1 && len == 1
  | .lcmp => op == 16 && n == pc + 1 && len == 1
  | .i2l => op == 17 && a == 0 && n == pc + 1 && len == 1
  | .l2i => op == 17 && a == 1 && n == pc + 1 && len == 1
  | .i2d => op == 17 && a == 2 && n == pc + 1 && len == 1
  | .d2i => op == 17 && a == 3 && n == pc + 1 && len == 1
  | .l2d => op == 17 && a == 4 && n == pc + 1 && len == 1
  | .dadd => op == 18 && a == 0 && n == pc + 1 && len == 1
  | .dsub => op == 18 && a == 1 && n == pc + 1 && len == 1
  | .dmul => op == 18 && a == 2 && n == pc + 1 && len == 1
  | .ddiv => op == 18 && a == 3 && n == pc + 1 && len == 1
  | .dneg => op == 19 && n == pc + 1 && len == 1
  | .dcmp o => op == 20 && a == (match o with | .l => 0 | .g => 1) && n == pc + 1 && len == 1
  | .goto o => op == 21 && decide ((pc : Int) + o = (a : Int)) && len == 3
  | .ifCond k o => op == 22 && b == cndOf k && decide ((pc : Int) + o = (a : Int)) && n == pc + 3 && len == 3
  | .if_icmp k o => op == 23 && b == cndOf k && decide ((pc : Int) + o = (a : Int)) && n == pc + 3 && len == 3
  | .ifnull o => op == 24 && b == 0 && decide ((pc : Int) + o = (a : Int)) && n == pc + 3 && len == 3
  | .ifnonnull o => op == 24 && b == 1 && decide ((pc : Int) + o = (a : Int)) && n == pc + 3 && len == 3
  | .if_acmp k o => op == 25 && b == (match k with | .eq => 0 | .ne => 1) && decide ((pc : Int) + o = (a : Int)) && n == pc + 3 && len == 3
  | .tableswitch dflt lo hi offs => op == 26 && decide ((pc : Int) + dflt = (a : Int)) && decide (v.toInt = lo) && decide (hi = lo + (ts.length : Int) - 1) && decide (offs.toList.map (fun o => (pc : Int) + o) = ts.map (fun (t : Nat) => (t : Int)))
  | .iinc k x => op == 27 && a == k && v == Int32.ofInt x && n == pc + 3 && len == 3
  | .dup => op == 28 && n == pc + 1 && len == 1
  | .pop => op == 29 && n == pc + 1 && len == 1
  | .dup_x1 => op == 31 && n == pc + 1 && len == 1
  | .dup2 => op == 32 && n == pc + 1 && len == 1
  | .getfield x => op == 30 && n == pc + 3 && len == 3 && lF.elem (own, x, a, b, c)
  | .putfield x => op == 33 && n == pc + 3 && len == 3 && lF.elem (own, x, a, b, c) && laid a && decide (a ≤ 21) && (!(cT a b).2.2.2 || (a == own && v == 1))
  | .iaload => op == 34 && a == 0 && n == pc + 1 && len == 1
  | .laload => op == 34 && a == 1 && n == pc + 1 && len == 1
  | .daload => op == 34 && a == 2 && n == pc + 1 && len == 1
  | .aaload => op == 34 && a == 3 && n == pc + 1 && len == 1
  | .baload => op == 34 && a == 4 && n == pc + 1 && len == 1
  | .caload => op == 34 && a == 5 && n == pc + 1 && len == 1
  | .iastore => op == 35 && a == 0 && n == pc + 1 && len == 1
  | .lastore => op == 35 && a == 1 && n == pc + 1 && len == 1
  | .dastore => op == 35 && a == 2 && n == pc + 1 && len == 1
  | .aastore => op == 35 && a == 3 && n == pc + 1 && len == 1
  | .bastore => op == 35 && a == 4 && n == pc + 1 && len == 1
  | .castore => op == 35 && a == 5 && n == pc + 1 && len == 1
  | .arraylength => op == 36 && n == pc + 1 && len == 1
  | .newarray t => op == 37 && n == pc + 2 && len == 2 && decide (50 ≤ a) && decide (a ≤ 55) && decide (newarray.typeOf t = aty a)
  | .new x => len == 3 && ((op == 38 && n == pc + 3 && decide (1 ≤ a) && decide (a ≤ 21) && b == cSz a && lC.elem (own, x, cNm a)) || (op == 40 && (a == 22 || a == 23) && (own == 1 || own == 2) && lC.elem (own, x, cNm a)))
  | .anewarray x => op == 39 && n == pc + 3 && len == 3 && ((a == 56 && lC.elem (own, x, "java/lang/Object")) || (a == 57 && lC.elem (own, x, "PhraseDesk$Node")) || (a == 58 && lC.elem (own, x, "PhraseDesk$Op")) || (a == 59 && lC.elem (own, x, "PhraseDesk$Value")))
  | .multianewarray x k => op == 50 && n == pc + 4 && len == 4 && k == 2 && own == 1 && x == 35
  | .checkcast x => op == 48 && n == pc + 3 && len == 3 && lC.elem (own, x, cNm a) && (a == 39 || a == 56 || (decide (1 ≤ a) && decide (a ≤ 21)))
  | .instanceof x => op == 49 && n == pc + 3 && len == 3 && lC.elem (own, x, cNm a) && (a == 10 || a == 12)
  | .invokevirtual x => n == pc + 3 && len == 3 && ((op == 41 && ((lM.elem (0, own, x, a, b, c)) || (lM.elem (1, own, x, a, b, c)) || (own == 1 && x == 220 && a == 25 && b == 1 && c == 25)) && b == mPars.getD a 0 + 1 && decide (1 ≤ c) && decide (c ≤ 25) && decide (a < mNum)) || (op == 45 && own == 34 && x == 86))
  | .invokestatic x => n == pc + 3 && len == 3 && ((op == 41 && c == 0 && ((lM.elem (2, own, x, a, b, 0)) || (lM.elem (3, own, x, a, b, 0))) && b == mPars.getD a 0 && decide (a < mNum)) || (op == 43 && ((own == 3 && x == 29) || (own == 34 && x == 150))) || (op == 52 && ((own == 34 && x == 304 && a == 0) || (own == 20 && x == 79 && a == 1) || (own == 33 && x == 194 && a == 1))))
  | .invokespecial x => n == pc + 3 && len == 3 && ((op == 41 && c == 99 && ((lM.elem (4, own, x, a, b, 99)) || (lM.elem (5, own, x, a, b, 99))) && b == mPars.getD a 0 + 1 && decide (a < mNum)) || (op == 44 && lO.elem (own, x)))
  | .invokeinterface x k => op == 42 && n == pc + 5 && len == 5 && b == 3 && lIf.elem (own, x)
  | .ireturn => op == 46 && len == 1 && (a == 0 || a == 4 || a == 5 || a == 6) && (match rt with | some ty => srt ty == a | none => false)
  | .lreturn => op == 46 && len == 1 && a == 1 && (match rt with | some ty => srt ty == a | none => false)
  | .dreturn => op == 46 && len == 1 && a == 2 && (match rt with | some ty => srt ty == a | none => false)
  | .areturn => op == 46 && len == 1 && a == 3 && (match rt with | some ty => srt ty == a | none => false)
  | .return_ => op == 47 && len == 1 && rt.isNone
  | _ => false
def okE (m : Nat) (q : Nat × mE) : Bool := match decode (mCod m) q.1 with
  | .ok (i, len) => q.2.1 == 0 || okI (mOw m) (mRt m) q.1 i len q.2.1 q.2.2.1 q.2.2.2.1 q.2.2.2.2.1 q.2.2.2.2.2.1 q.2.2.2.2.2.2.1 q.2.2.2.2.2.2.2
  | .error _ => q.2.1 == 0
