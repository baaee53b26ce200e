/-! THE PURE MACHINE: a heap that is a function, values on lists, a method by its number; 'pR' is the outcome of running on from a frame (none: it never ends or is stuck) -/
set_option maxRecDepth 100000
/-- the heap: cells by address; the next address; slots made so far -/
abbrev pH : Type := (Nat → Option va_E) × Nat × Nat
/-- an outcome: an answer (or none), or the address of what is thrown; the heap -/
abbrev pO : Type := (Option Value ⊕ Nat) × pH
/-- a frame: depth that is left, method, pc, locals, operands, heap -/
abbrev pF : Type := Nat × Nat × Nat × List Value × List Value × pH
abbrev pA : Type := Option (pO ⊕ (pF ⊕ (pF × (pO → Option (pO ⊕ pF)))))
/-- a local that is not set; the second half of a long -/
abbrev pU : Value := .retAddr 0
abbrev pV : Value := .retAddr 1
def pins (M pc : Nat) : Option (pI × Nat) := match pTAB[M]? with
  | some t => (match t[pc / 64]? with
    | some r => r.lookup pc
    | none => none)
  | none => none
def pml (M : Nat) : Nat := (pML.getD M (0, 9, 0)).1
def prt (M : Nat) : Nat := (pML.getD M (0, 9, 0)).2.1
/-- how many arguments, the receiver among them -/
def pna (M : Nat) : Nat := (pML.getD M (0, 9, 0)).2.2
/-! the heap -/
def pup (h : pH) (a : Nat) (c : va_E) : pH := (fun q => if q = a then some c else h.1 q, h.2)
def pnw (h : pH) (c : va_E) (n : Nat) : pH := (fun q => if q = h.2.1 then some c else h.1 q, h.2.1 + 1, h.2.2 + n)
/-- may an object of the kind c stand where one of the kind F is named -/
def pok (F c : Nat) : Bool := F == c || (F == 5 && (c == 6 || c == 13)) || (F == 8 && (c == 9 || c == 10 || c == 11 || c == 12)) || (F == 14 && (c == 15 || c == 20 || c == 21)) || (F == 16 && (c == 17 || c == 18 || c == 19))
def pcl (h : pH) (a : Nat) : Nat := match h.1 a with
  | some (.inr (c, _)) => c
  | _ => 99
def pfl (h : pH) (F a k : Nat) : Value := match h.1 a with
  | some (.inr (c, fs)) => if pok F c = true then fs.getD k pU else pU
  | _ => pU
def psf (h : pH) (a k : Nat) (v : Value) : pH := match h.1 a with
  | some (.inr (c, fs)) => pup h a (.inr (c, fs.set k v))
  | _ => h
/-- is it a value (and no mark) -/
def pis : Value → Bool
  | .int _ => true
  | .long _ => true
  | .ref _ => true
  | .null => true
  | _ => false
/-- does a value fit a field: 0 int, 1 long, 2 boolean, 3 reference -/
def pfit (k : Nat) (v : Value) : Bool := match v with
  | .int x => k == 0 || (k == 2 && (x == 0 || x == 1))
  | .long _ => k == 1
  | .ref _ => k == 3
  | .null => k == 3
  | _ => false
/-- arrays of whole numbers: kinds 0 int, 1 byte, 2 boolean, 9 the script; 3 long; 4 .. 7 references -/
def pln (h : pH) (k a : Nat) : Nat := match h.1 a with
  | some (.inl (k', n, .inl _)) => if k' = k then n else 0
  | _ => 0
def pct (h : pH) (a : Nat) : Nat → Int32 := match h.1 a with
  | some (.inl (_, _, .inl f)) => f
  | _ => fun _ => 0
def pst (h : pH) (a i : Nat) (x : Int32) : pH := match h.1 a with
  | some (.inl (k, n, .inl f)) => pup h a (.inl (k, n, .inl (upd f i x)))
  | _ => h
def plnL (h : pH) (a : Nat) : Nat := match h.1 a with
  | some (.inl (k, n, .inr (.inl _))) => if k = 3 then n else 0
  | _ => 0
def pctL (h : pH) (a : Nat) : Nat → Int64 := match h.1 a with
  | some (.inl (_, _, .inr (.inl f))) => f
  | _ => fun _ => 0
def pstL (h : pH) (a i : Nat) (x : Int64) : pH := match h.1 a with
  | some (.inl (k, n, .inr (.inl f))) => pup h a (.inl (k, n, .inr (.inl (vp_updL f i x))))
  | _ => h
def plnQ (h : pH) (a : Nat) : Nat := match h.1 a with
  | some (.inl (k, n, .inr (.inr (.inr (.inr _))))) => if 4 ≤ k ∧ k ≤ 7 then n else 0
  | _ => 0
def pkdQ (h : pH) (a : Nat) : Nat := match h.1 a with
  | some (.inl (k, _, .inr (.inr (.inr (.inr _))))) => k
  | _ => 0
def pctQ (h : pH) (a : Nat) : Nat → Option Nat := match h.1 a with
  | some (.inl (_, _, .inr (.inr (.inr (.inr f))))) => f
  | _ => fun _ => none
def pstQ (h : pH) (a i : Nat) (x : Option Nat) : pH := match h.1 a with
  | some (.inl (k, n, .inr (.inr (.inr (.inr f))))) => pup h a (.inl (k, n, .inr (.inr (.inr (.inr (va_up f i x))))))
  | _ => h
def pin (i : Int32) (n : Nat) : Bool := decide (0 ≤ i) && decide (i.toNatClampNeg < n)
/-- the element kind of an array of references -/
def pel : Nat → Nat
  | 4 => 4
  | 5 => 24
  | 6 => 25
  | 7 => 22
  | _ => 98
/-- a copy of ints between arrays (System.arraycopy) -/
def pcp (h : pH) (a : Nat) (i : Nat) (b : Nat) (j n : Nat) : pH := match h.1 b with
  | some (.inl (k, m, .inl f)) => pup h b (.inl (k, m, .inl (va_cpy (pct h a) f i j n)))
  | _ => h
/-! locals -/
def p1 : Value → Bool
  | .retAddr n => n == 0
  | .int _ => true
  | .ref _ => true
  | .null => true
  | _ => false
def p2 (a b : Value) : Bool := (match a with
  | .long _ => true
  | x => p1 x) && (match b with
  | .long _ => false
  | _ => true)
def pent : Nat → List Value → List Value
  | n, [] => List.replicate n pU
  | 0, _ => []
  | 1, v :: _ => [v]
  | n + 2, .long x :: vs => .long x :: pV :: pent n vs
  | n + 2, v :: vs => v :: pent (n + 1) vs
/-! one instruction without the heap -/
def pj (pc : Nat) (off : Int) : Nat := ((pc : Int) + off).toNat
def pcmp (c : Jvm.ClassFile.Cond) (x y : Int32) : Bool := match c with
  | .eq => decide (x = y)
  | .ne => decide (¬ x = y)
  | .lt => decide (x < y)
  | .ge => decide (y ≤ x)
  | .gt => decide (y < x)
  | .le => decide (x ≤ y)
def psw (dflt lo hi : Int) (offs : Array Int) (x : Int32) : Int := if x.toInt < lo ∨ hi < x.toInt then dflt else (offs[(x.toInt - lo).toNat]?).getD dflt
def pld (ls : List Value) (i : Nat) (n pc : Nat) (st : List Value) (k : Nat) : Option (Nat × List Value × List Value) := match ls[i]?, k with
  | some (.int x), 0 => some (pc + n, ls, .int x :: st)
  | some (.long x), 1 => some (pc + n, ls, .long x :: st)
  | some (.ref x), 3 => some (pc + n, ls, .ref x :: st)
  | some .null, 3 => some (pc + n, ls, .null :: st)
  | _, _ => none
def psto (ls : List Value) (i : Nat) (n pc : Nat) (v : Value) (st : List Value) : Option (Nat × List Value × List Value) := match ls[i]? with
  | some o => if p1 o = true then some (pc + n, ls.set i v, st) else none
  | none => none
def pstoL (ls : List Value) (i : Nat) (n pc : Nat) (x : Int64) (st : List Value) : Option (Nat × List Value × List Value) := match ls[i]?, ls[i + 1]? with
  | some o, some o2 => if p2 o o2 = true then some (pc + n, (ls.set i (.long x)).set (i + 1) pV, st) else none
  | _, _ => none
def pl (i : Instr) (n pc : Nat) (ls st : List Value) : Option (Nat × List Value × List Value) := match i with
  | .iconst k => some (pc + 1, ls, .int (Int32.ofInt k) :: st)
  | .bipush k => some (pc + 2, ls, .int (Int8.ofInt k).toInt32 :: st)
  | .sipush k => some (pc + 3, ls, .int (Int16.ofInt k).toInt32 :: st)
  | .lconst k => some (pc + 1, ls, .long (Int64.ofNat (k : Nat)) :: st)
  | .aconst_null => some (pc + 1, ls, .null :: st)
  | .iload_n k => pld ls k n pc st 0
  | .iload k => pld ls k n pc st 0
  | .lload_n k => pld ls k n pc st 1
  | .lload k => pld ls k n pc st 1
  | .aload_n k => pld ls k n pc st 3
  | .aload k => pld ls k n pc st 3
  | .istore_n k => (match st with
    | .int x :: st => psto ls k n pc (.int x) st
    | _ => none)
  | .istore k => (match st with
    | .int x :: st => psto ls k n pc (.int x) st
    | _ => none)
  | .astore_n k => (match st with
    | .ref x :: st => psto ls k n pc (.ref x) st
    | .null :: st => psto ls k n pc .null st
    | _ => none)
  | .astore k => (match st with
    | .ref x :: st => psto ls k n pc (.ref x) st
    | .null :: st => psto ls k n pc .null st
    | _ => none)
  | .lstore_n k => (match st with
    | .long x :: st => pstoL ls k n pc x st
    | _ => none)
  | .lstore k => (match st with
    | .long x :: st => pstoL ls k n pc x st
    | _ => none)
  | .iinc k c => (match ls[k]? with
    | some (.int x) => some (pc + 3, ls.set k (.int (x + Int32.ofInt c)), st)
    | _ => none)
  | .iadd => (match st with
    | .int y :: .int x :: st => some (pc + 1, ls, .int (x + y) :: st)
    | _ => none)
  | .isub => (match st with
    | .int y :: .int x :: st => some (pc + 1, ls, .int (x - y) :: st)
    | _ => none)
  | .imul => (match st with
    | .int y :: .int x :: st => some (pc + 1, ls, .int (x * y) :: st)
    | _ => none)
  | .iand => (match st with
    | .int y :: .int x :: st => some (pc + 1, ls, .int (x &&& y) :: st)
    | _ => none)
  | .ior => (match st with
    | .int y :: .int x :: st => some (pc + 1, ls, .int (x ||| y) :: st)
    | _ => none)
  | .ixor => (match st with
    | .int y :: .int x :: st => some (pc + 1, ls, .int (x ^^^ y) :: st)
    | _ => none)
  | .idiv => (match st with
    | .int y :: .int x :: st => if y = 0 then none else some (pc + 1, ls, .int (x / y) :: st)
    | _ => none)
  | .irem => (match st with
    | .int y :: .int x :: st => if y = 0 then none else some (pc + 1, ls, .int (x - x / y * y) :: st)
    | _ => none)
  | .ineg => (match st with
    | .int x :: st => some (pc + 1, ls, .int (-x) :: st)
    | _ => none)
  | .ishl => (match st with
    | .int y :: .int x :: st => some (pc + 1, ls, .int (x <<< (y &&& 31)) :: st)
    | _ => none)
  | .ishr => (match st with
    | .int y :: .int x :: st => some (pc + 1, ls, .int (x >>> (y &&& 31)) :: st)
    | _ => none)
  | .iushr => (match st with
    | .int y :: .int x :: st => some (pc + 1, ls, .int (x.toUInt32 >>> (y.toUInt32 &&& Int32.toUInt32 31)).toInt32 :: st)
    | _ => none)
  | .ladd => (match st with
    | .long y :: .long x :: st => some (pc + 1, ls, .long (x + y) :: st)
    | _ => none)
  | .lsub => (match st with
    | .long y :: .long x :: st => some (pc + 1, ls, .long (x - y) :: st)
    | _ => none)
  | .lmul => (match st with
    | .long y :: .long x :: st => some (pc + 1, ls, .long (x * y) :: st)
    | _ => none)
  | .land => (match st with
    | .long y :: .long x :: st => some (pc + 1, ls, .long (x &&& y) :: st)
    | _ => none)
  | .lor => (match st with
    | .long y :: .long x :: st => some (pc + 1, ls, .long (x ||| y) :: st)
    | _ => none)
  | .ldiv => (match st with
    | .long y :: .long x :: st => if y = 0 then none else some (pc + 1, ls, .long (x / y) :: st)
    | _ => none)
  | .lrem => (match st with
    | .long y :: .long x :: st => if y = 0 then none else some (pc + 1, ls, .long (x - x / y * y) :: st)
    | _ => none)
  | .lshl => (match st with
    | .int y :: .long x :: st => some (pc + 1, ls, .long (x <<< (y.toInt64 &&& 63)) :: st)
    | _ => none)
  | .lushr => (match st with
    | .int y :: .long x :: st => some (pc + 1, ls, .long (x.toUInt64 >>> (y.toInt64.toUInt64 &&& Int64.toUInt64 63)).toInt64 :: st)
    | _ => none)
  | .lcmp => (match st with
    | .long y :: .long x :: st => some (pc + 1, ls, .int (lg_cmp x y) :: st)
    | _ => none)
  | .i2l => (match st with
    | .int x :: st => some (pc + 1, ls, .long x.toInt64 :: st)
    | _ => none)
  | .l2i => (match st with
    | .long x :: st => some (pc + 1, ls, .int x.toInt32 :: st)
    | _ => none)
  | .i2b => (match st with
    | .int x :: st => some (pc + 1, ls, .int x.toInt8.toInt32 :: st)
    | _ => none)
  | .dup => (match st with
    | v :: st => if v.category = 1 then some (pc + 1, ls, v :: v :: st) else none
    | _ => none)
  | .dup2 => (match st with
    | v :: w :: st => if v.category = 1 ∧ w.category = 1 then some (pc + 1, ls, v :: w :: v :: w :: st) else none
    | _ => none)
  | .pop => (match st with
    | v :: st => if v.category = 1 then some (pc + 1, ls, st) else none
    | _ => none)
  | .goto o => some (pj pc o, ls, st)
  | .ifCond c o => (match st with
    | .int x :: st => if pcmp c x 0 = true then some (pj pc o, ls, st) else some (pc + 3, ls, st)
    | _ => none)
  | .if_icmp c o => (match st with
    | .int y :: .int x :: st => if pcmp c x y = true then some (pj pc o, ls, st) else some (pc + 3, ls, st)
    | _ => none)
  | .ifnull o => (match st with
    | .null :: st => some (pj pc o, ls, st)
    | .ref _ :: st => some (pc + 3, ls, st)
    | _ => none)
  | .ifnonnull o => (match st with
    | .null :: st => some (pc + 3, ls, st)
    | .ref _ :: st => some (pj pc o, ls, st)
    | _ => none)
  | .tableswitch d lo hi offs => (match st with
    | .int x :: st => some (pj pc (psw d lo hi offs x), ls, st)
    | _ => none)
  | _ => none
/-! one instruction with the heap, calls and ends -/
def pgo (f : pF) : pA := some (.inr (.inl f))
def pend (o : pO) : pA := some (.inl o)
/-- the first handler that covers a pc: its place, the number of what it catches -/
def phd (M pc : Nat) : Option (Nat × Nat) := (pHT.find? (fun q => q.1 == M && decide (q.2.1 ≤ pc) && decide (pc < q.2.2.1))).map (fun q => q.2.2.2)
/-- something was thrown at pc: its handler, or out -/
def pth (d M pc : Nat) (ls : List Value) (a : Nat) (h : pH) : Option (pO ⊕ pF) := match phd M pc with
  | some q => if q.2 = pcl h a then some (.inr (d, M, q.1, ls, [.ref a], h)) else none
  | none => some (.inl (.inr a, h))
def pk (d M pc n : Nat) (ls st : List Value) (o : pO) : Option (pO ⊕ pF) := match o with
  | (.inl (some v), h) => some (.inr (d, M, pc + n, ls, v :: st, h))
  | (.inl none, h) => some (.inr (d, M, pc + n, ls, st, h))
  | (.inr a, h) => pth d M pc ls a h
/-- the arguments fit into the locals -/
def pwa (M : Nat) (as : List Value) : Bool := decide (as.length = pna M) && as.all pis && decide ((as.map Value.category).sum ≤ pml M)
def pw (st : List Value) : Bool := decide (st.length ≤ 4) || decide ((st.map Value.category).sum ≤ 8)
/-- the method that a call through an object of the kind c reaches -/
def pvt : List Nat → Nat → Option Nat
  | c :: M :: l, k => if c = k then some M else pvt l k
  | _, _ => none
def pcallA (M' d M pc n : Nat) (ls as st : List Value) (h : pH) : pA := match d with
  | d' + 1 => if pw st = true then (if pwa M' as = true then some (.inr (.inr ((d', M', 0, pent (pml M') as, [], h), pk (d' + 1) M pc n ls st))) else none) else none
  | 0 => none
def paL (i : Instr) (n d M pc : Nat) (ls st : List Value) (h : pH) : pA := match i with
  | .iaload => (match st with
    | .int j :: .ref a :: st => if (pin j (pln h 0 a) || pin j (pln h 9 a)) = true then pgo (d, M, pc + 1, ls, .int (pct h a j.toNatClampNeg) :: st, h) else none
    | _ => none)
  | .iastore => (match st with
    | .int x :: .int j :: .ref a :: st => if pin j (pln h 0 a) = true then pgo (d, M, pc + 1, ls, st, pst h a j.toNatClampNeg x) else none
    | _ => none)
  | .baload => (match st with
    | .int j :: .ref a :: st => if (pin j (pln h 1 a) || pin j (pln h 2 a)) = true then pgo (d, M, pc + 1, ls, .int (pct h a j.toNatClampNeg) :: st, h) else none
    | _ => none)
  | .bastore => (match st with
    | .int x :: .int j :: .ref a :: st => if pin j (pln h 1 a) = true then pgo (d, M, pc + 1, ls, st, pst h a j.toNatClampNeg x.toInt8.toInt32)
        else if (pin j (pln h 2 a) && (x == 0 || x == 1)) = true then pgo (d, M, pc + 1, ls, st, pst h a j.toNatClampNeg x) else none
    | _ => none)
  | .laload => (match st with
    | .int j :: .ref a :: st => if pin j (plnL h a) = true then pgo (d, M, pc + 1, ls, .long (pctL h a j.toNatClampNeg) :: st, h) else none
    | _ => none)
  | .lastore => (match st with
    | .long x :: .int j :: .ref a :: st => if pin j (plnL h a) = true then pgo (d, M, pc + 1, ls, st, pstL h a j.toNatClampNeg x) else none
    | _ => none)
  | .aaload => (match st with
    | .int j :: .ref a :: st => if pin j (plnQ h a) = true then pgo (d, M, pc + 1, ls, va_rf (pctQ h a j.toNatClampNeg) :: st, h) else none
    | _ => none)
  | .aastore => (match st with
    | .ref x :: .int j :: .ref a :: st => if (pin j (plnQ h a) && pcl h x == pel (pkdQ h a)) = true then pgo (d, M, pc + 1, ls, st, pstQ h a j.toNatClampNeg (some x)) else none
    | _ => none)
  | .arraylength => (match st with
    | .ref a :: st => (match h.1 a with
      | some (.inl (k, m, .inl _)) => if k = 0 ∨ k = 9 then pgo (d, M, pc + 1, ls, .int (Int32.ofNat m) :: st, h) else none
      | _ => none)
    | _ => none)
  | .ireturn => (match st with
    | [.int v] => if prt M = 0 then pend (.inl (some (.int v)), h) else if prt M = 2 then (if (v == 0 || v == 1) = true then pend (.inl (some (.int v)), h) else none) else none
    | _ => none)
  | .lreturn => (match st with
    | [.long v] => if prt M = 1 then pend (.inl (some (.long v)), h) else none
    | _ => none)
  | .areturn => (match st with
    | [.ref a] => if prt M = 3 then pend (.inl (some (.ref a)), h) else none
    | _ => none)
  | .return_ => (match st with
    | [] => if prt M = 4 then pend (.inl none, h) else none
    | _ => none)
  | .athrow => (match st with
    | .ref a :: _ => if pcl h a = 7 ∨ pcl h a = 26 then (match pth d M pc ls a h with
      | some (.inl o) => pend o
      | _ => none) else none
    | _ => none)
  | i => (match pl i n pc ls st with
    | some (pc', ls', st') => pgo (d, M, pc', ls', st', h)
    | none => none)
def paX (t a b : Nat) (l : List Nat) (n d M pc : Nat) (ls st : List Value) (h : pH) : pA := match t with
  | 0 => (match st with
    | .ref o :: st => if pis (pfl h a o b) = true then pgo (d, M, pc + 3, ls, pfl h a o b :: st, h) else none
    | _ => none)
  | 1 => (match st with
    | v :: .ref o :: st => if (pis (pfl h a o b) && pfit (l.getD 0 9) v) = true then pgo (d, M, pc + 3, ls, st, psf h o b v) else none
    | _ => none)
  | 2 => pgo (d, M, pc + n, ls, .int (Int32.ofNat a) :: st, h)
  | 3 => pgo (d, M, pc + n, ls, .long (Int64.ofNat a) :: st, h)
  | 4 => (match l with
    | [na, F] => if b = 0 then pcallA a d M pc n ls (st.take na).reverse (st.drop na) h
      else (match (st.take na).reverse with
        | .ref o :: as => if pok F (pcl h o) = true then pcallA a d M pc n ls (.ref o :: as) (st.drop na) h else none
        | _ => none)
    | _ => none)
  | 5 => (match (st.take a).reverse with
    | .ref o :: as => (match pvt l (pcl h o) with
      | some M' => pcallA M' d M pc n ls (.ref o :: as) (st.drop a) h
      | none => none)
    | _ => none)
  | 6 => pgo (d, M, pc + 3, ls, .ref h.2.1 :: st, pnw h (.inr (a, pDF.getD a [])) b)
  | 7 => (match st with
    | .int m :: st => if (decide (0 ≤ m) && decide (m.toNatClampNeg ≤ 65536)) = true then pgo (d, M, pc + 2, ls, .ref h.2.1 :: st, pnw h (.inl (a, m.toNatClampNeg, if a = 3 then .inr (.inl fun _ => 0) else .inl fun _ => 0)) m.toNatClampNeg) else none
    | _ => none)
  | 8 => (match st with
    | .int m :: st => if (decide (0 ≤ m) && decide (m.toNatClampNeg ≤ 65536)) = true then pgo (d, M, pc + 3, ls, .ref h.2.1 :: st, pnw h (.inl (a, m.toNatClampNeg, .inr (.inr (.inr (.inr fun _ => none))))) m.toNatClampNeg) else none
    | _ => none)
  | 9 => (match st with
    | .int c :: .int j :: .ref y :: .int i :: .ref x :: st => if (decide (0 < pln h 0 x) && decide (0 < pln h 0 y) && decide (0 ≤ i) && decide (0 ≤ j) && decide (0 ≤ c) && decide (i.toNatClampNeg + c.toNatClampNeg ≤ pln h 0 x) && decide (j.toNatClampNeg + c.toNatClampNeg ≤ pln h 0 y) && !(x == y) && pw st && decide (0 < d)) = true then pgo (d, M, pc + 3, ls, st, pcp h x i.toNatClampNeg y j.toNatClampNeg c.toNatClampNeg) else none
    | _ => none)
  | 10 => (match st with
    | .ref _ :: st => if (pw st && decide (0 < d)) = true then pgo (d, M, pc + 3, ls, st, h) else none
    | _ => none)
  | 11 => (match st with
    | .ref x :: .ref o :: st => if (pcl h o == a && pw st && decide (2 < d)) = true then pgo (d, M, pc + 3, ls, st, if a = 6 then psf (psf h o 5 (.ref x)) o 2 (.ref x) else psf (psf h o 3 (.ref x)) o 2 (.ref x)) else none
    | _ => none)
  | 12 => (match st with
    | .int x :: .int y :: .null :: .null :: .ref o :: st => if (x == 0 && y == 0 && pis (pfl h 7 o 0) && pis (pfl h 7 o 1) && pis (pfl h 7 o 2) && pis (pfl h 7 o 3) && pw st && decide (2 < d)) = true then pgo (d, M, pc + 3, ls, st, psf (psf (psf (psf h o 0 .null) o 1 .null) o 2 .null) o 3 .null) else none
    | _ => none)
  | 13 => if (pw st && decide (10 < d) && (phd M (pc + 7)).isNone) = true then pend (.inr h.2.1, pnw h (.inr (26, [])) b) else none
  | 14 => (match a, st with
    | 0, .int y :: .int x :: st => if (pw st && decide (0 < d)) = true then pgo (d, M, pc + 3, ls, .int (if x < y then y else x) :: st, h) else none
    | 1, .int y :: .int x :: st => if (pw st && decide (0 < d)) = true then pgo (d, M, pc + 3, ls, .int (if y < x then y else x) :: st, h) else none
    | 2, .long y :: .long x :: st => if (pw st && decide (0 < d)) = true then pgo (d, M, pc + 3, ls, .long (if y < x then y else x) :: st, h) else none
    | 3, .long y :: .long x :: st => if (pw st && decide (0 < d)) = true then pgo (d, M, pc + 3, ls, .long (if y < x then x else y) :: st, h) else none
    | _, _ => none)
  | _ => none
def pact (f : pF) : pA := match f with
  | (d, M, pc, ls, st, h) => (match pins M pc with
    | some (.inl i, n) => paL i n d M pc ls st h
    | some (.inr (t, a, b, l), n) => paX t a b l n d M pc ls st h
    | none => none)
/-! running -/
def prun : Nat → pF → Option pO
  | 0, _ => none
  | k + 1, f => (match pact f with
    | none => none
    | some (.inl o) => some o
    | some (.inr (.inl f')) => prun k f'
    | some (.inr (.inr (f', kk))) => (match prun k f' with
      | none => none
      | some o => (match kk o with
        | none => none
        | some (.inl o') => some o'
        | some (.inr f'') => prun k f'')))
theorem prun_mono : ∀ (k : Nat) (f : pF) (o : pO), prun k f = some o → prun (k + 1) f = some o := by
  intro k
  induction k with
  | zero => intro f o h; cases h
  | succ k ih =>
    intro f o h
    rw [prun] at h ⊢
    cases ha : pact f with
    | none => rw [ha] at h; cases h
    | some q =>
      rw [ha] at h
      cases q with
      | inl x => exact h
      | inr q =>
        cases q with
        | inl f' => exact ih _ _ h
        | inr q =>
          obtain ⟨f', kk⟩ := q
          dsimp only at h ⊢
          cases h1 : prun k f' with
          | none => rw [h1] at h; cases h
          | some o1 =>
            rw [h1] at h
            rw [ih _ _ h1]
            dsimp only at h ⊢
            cases h2 : kk o1 with
            | none => rw [h2] at h; cases h
            | some r =>
              rw [h2] at h
              cases r with
              | inl x => exact h
              | inr f'' => exact ih _ _ h
theorem prun_le {k k' : Nat} (hk : k ≤ k') {f : pF} {o : pO} (h : prun k f = some o) : prun k' f = some o := by
  induction hk with
  | refl => exact h
  | step _ ih => exact prun_mono _ _ _ ih
theorem prun_det {k k' : Nat} {f : pF} {o o' : pO} (h : prun k f = some o) (h' : prun k' f = some o') : o = o' := by
  have a := prun_le (Nat.le_max_left k k') h
  have b := prun_le (Nat.le_max_right k k') h'
  exact Option.some.inj (a.symm.trans b)
noncomputable def pRf (f : pF) : Option pO := Classical.epsilon (fun r : Option pO => (∀ o, r = some o ↔ ∃ k, prun k f = some o))
theorem pRf_iff {f : pF} {o : pO} : pRf f = some o ↔ ∃ k, prun k f = some o := by
  have h : ∃ r : Option pO, ∀ o, r = some o ↔ ∃ k, prun k f = some o := by
    by_cases h : ∃ o k, prun k f = some o
    · obtain ⟨o, k, h⟩ := h
      exact ⟨some o, fun o' => ⟨fun e => ⟨k, by rw [h, e]⟩, fun ⟨k', h'⟩ => by rw [prun_det h h']⟩⟩
    · exact ⟨none, fun o' => ⟨fun e => (by cases e), fun h' => absurd ⟨o', h'⟩ h⟩⟩
  exact Classical.epsilon_spec h o
theorem pRf_ext {f g : pF} (h : ∀ o, (∃ k, prun k f = some o) ↔ ∃ k, prun k g = some o) : pRf f = pRf g := by
  cases hf : pRf f with
  | some o => exact (pRf_iff.mpr ((h o).mp (pRf_iff.mp hf))).symm
  | none =>
    cases hg : pRf g with
    | none => rfl
    | some o => rw [pRf_iff.mpr ((h o).mpr (pRf_iff.mp hg))] at hf; cases hf
theorem pRf_go {f g : pF} (h : pact f = pgo g) : pRf f = pRf g := by
  refine pRf_ext fun o => ⟨fun ⟨k, hk⟩ => ?_, fun ⟨k, hk⟩ => ⟨k + 1, ?_⟩⟩
  · cases k with
    | zero => cases hk
    | succ k => rw [prun, h] at hk; exact ⟨k, hk⟩
  · rw [prun, h]; exact hk
theorem pRf_end {f : pF} {o : pO} (h : pact f = pend o) : pRf f = some o := pRf_iff.mpr ⟨1, by rw [prun, h]; rfl⟩
theorem pRf_call {f f' : pF} {kk : pO → Option (pO ⊕ pF)} (h : pact f = some (.inr (.inr (f', kk)))) : pRf f = (match pRf f' with
    | none => none
    | some o => (match kk o with
      | none => none
      | some (.inl o') => some o'
      | some (.inr f'') => pRf f'')) := by
  have key : ∀ o, pRf f = some o ↔ (match pRf f' with
    | none => none
    | some o => (match kk o with
      | none => none
      | some (.inl o') => some o'
      | some (.inr f'') => pRf f'')) = some o := by
    intro o
    constructor
    · intro hf
      obtain ⟨k, hk⟩ := pRf_iff.mp hf
      cases k with
      | zero => cases hk
      | succ k =>
        rw [prun, h] at hk
        dsimp only at hk
        cases h1 : prun k f' with
        | none => rw [h1] at hk; cases hk
        | some o1 =>
          rw [h1] at hk
          rw [pRf_iff.mpr ⟨k, h1⟩]
          dsimp only at hk ⊢
          cases h2 : kk o1 with
          | none => rw [h2] at hk; cases hk
          | some r =>
            rw [h2] at hk
            cases r with
            | inl x => exact hk
            | inr f'' => exact pRf_iff.mpr ⟨k, hk⟩
    · intro hr
      cases h1 : pRf f' with
      | none => rw [h1] at hr; cases hr
      | some o1 =>
        rw [h1] at hr
        dsimp only at hr
        obtain ⟨k1, hk1⟩ := pRf_iff.mp h1
        cases h2 : kk o1 with
        | none => rw [h2] at hr; cases hr
        | some r =>
          rw [h2] at hr
          cases r with
          | inl x =>
            refine pRf_iff.mpr ⟨k1 + 1, ?_⟩
            rw [prun, h]
            dsimp only
            rw [hk1]
            dsimp only
            rw [h2]
            exact hr
          | inr f'' =>
            obtain ⟨k2, hk2⟩ := pRf_iff.mp hr
            refine pRf_iff.mpr ⟨max k1 k2 + 1, ?_⟩
            rw [prun, h]
            dsimp only
            rw [prun_le (Nat.le_max_left _ _) hk1]
            dsimp only
            rw [h2]
            exact prun_le (Nat.le_max_right _ _) hk2
  cases hf : pRf f with
  | some o => exact ((key o).mp hf).symm
  | none =>
    generalize hX : (match pRf f' with
    | none => none
    | some o => (match kk o with
      | none => none
      | some (.inl o') => some o'
      | some (.inr f'') => pRf f'')) = X at key
    cases X with
    | none => rfl
    | some o => rw [(key o).mpr rfl] at hf; cases hf
theorem pRf_none {f : pF} (h : pact f = none) : pRf f = none := by
  cases hf : pRf f with
  | none => rfl
  | some o =>
    obtain ⟨k, hk⟩ := pRf_iff.mp hf
    cases k with
    | zero => cases hk
    | succ k => rw [prun, h] at hk; cases hk
/-- running on from a frame -/
noncomputable def pR (M d pc : Nat) (ls st : List Value) (h : pH) : Option pO := pRf (d, M, pc, ls, st, h)
/-- a call -/
noncomputable def pCa (M d : Nat) (as : List Value) (h : pH) : Option pO := if pwa M as = true then pR M d 0 (pent (pml M) as) [] h else none
/-- behind a call at pc (n bytes long) -/
noncomputable def pK (M d pc n : Nat) (ls st : List Value) (o : Option pO) : Option pO := match o with
  | none => none
  | some (.inl (some v), h) => pR M d (pc + n) ls (v :: st) h
  | some (.inl none, h) => pR M d (pc + n) ls st h
  | some (.inr a, h) => (match phd M pc with
    | some q => if q.2 = pcl h a then pR M d q.1 ls [.ref a] h else none
    | none => some (.inr a, h))
