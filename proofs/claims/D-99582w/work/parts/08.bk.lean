/-! THE PURE MACHINE (bk_): a small interpreter of the system's bytecode over a plain heap: a value for (sort, address, place); references are numbers, null is 0. Sorts: a class by its number, arrays 100 and on, lengths 200 and on. -/
abbrev bk_H : Type := (Nat → Nat → Nat → Value) × Nat × Nat
abbrev bk_R : Type := Option (Option Value × bk_H)
abbrev bk_C : Type := Nat → List Value → bk_H → bk_R
abbrev bk_K : Type := Nat → List Value → List Value → bk_H → bk_R
abbrev bk_S : Type := bk_C → Nat → List Value → List Value → bk_H → bk_K → bk_R
/-- an instruction, its length, numbers that say what it is linked to, a constant, a switch's places, locals that are forgotten ahead of it -/
abbrev bk_O : Type := Instr × Nat × Nat × Nat × Nat × Nat × Value × List (Int32 × Nat) × List Nat
def bk_u : Value := .retAddr 0
def bk_I (v : Value) (K : Int32 → bk_R) : bk_R := match v with
  | .int x => K x
  | _ => none
def bk_J (v : Value) (K : Int64 → bk_R) : bk_R := match v with
  | .long x => K x
  | _ => none
def bk_A (v : Value) (K : Nat → bk_R) : bk_R := match v with
  | .ref x => K x
  | _ => none
/-- a value that is one -/
def bk_V (v : Value) (K : bk_R) : bk_R := match v with
  | .int _ => K
  | .long _ => K
  | .ref _ => K
  | _ => none
def bk_get : List Value → Nat → Value
  | [], _ => bk_u
  | v :: _, 0 => v
  | _ :: L, i + 1 => bk_get L i
def bk_set : List Value → Nat → Value → List Value
  | [], _, _ => []
  | _ :: L, 0, x => x :: L
  | v :: L, i + 1, x => v :: bk_set L i x
def bk_kill (L : List Value) (i : Nat) : List Value := match i with
  | 0 => L
  | j + 1 => match bk_get L j with
    | .long _ => bk_set L j bk_u
    | _ => L
def bk_st1 (L : List Value) (i : Nat) (v : Value) : List Value := bk_set (bk_kill L i) i v
def bk_st2 (L : List Value) (i : Nat) (v : Value) : List Value := bk_set (bk_set (bk_kill L i) i v) (i + 1) bk_u
def bk_exp : List Value → List Value
  | [] => []
  | .long x :: vs => .long x :: bk_u :: bk_exp vs
  | v :: vs => v :: bk_exp vs
/-- the locals at a method's entry -/
def bk_ini (args : List Value) (n : Nat) : List Value := bk_exp args ++ List.replicate (n - (bk_exp args).length) bk_u
/-- an index as a place; below 0 it is beyond all arrays -/
def bk_ix (j : Int32) : Nat := j.toUInt32.toNat
def bk_put (h : bk_H) (t a k : Nat) (v : Value) : bk_H := (fun t' a' k' => if t' = t ∧ a' = a ∧ k' = k then v else h.1 t' a' k', h.2)
def bk_new (h : bk_H) (c : Nat) (fs : List Value) : bk_H := (fun t a k => if t = c ∧ a = h.2.1 ∧ k < fs.length then bk_get fs k else h.1 t a k, h.2.1 + 1, h.2.2 + fs.length)
def bk_newA (h : bk_H) (t n : Nat) (d : Value) : bk_H :=
  (fun t' a k => if t' = t ∧ a = h.2.1 ∧ k < n then d else if t' = t + 100 ∧ a = h.2.1 ∧ k = 0 then .int (Int32.ofNat n) else h.1 t' a k, h.2.1 + 1, h.2.2 + n)
def bk_nz (x : Int32) (K : bk_R) : bk_R := if x = 0 then none else K
def bk_nzJ (x : Int64) (K : bk_R) : bk_R := if x = 0 then none else K
/-- a boolean, as it is kept in a field or array -/
def bk_bl (x : Int32) (K : bk_R) : bk_R := if x = 0 ∨ x = 1 then K else none
/-- an array's length -/
def bk_len (x : Int32) (K : Nat → bk_R) : bk_R := if x < 0 ∨ 4096 < x then none else K (bk_ix x)
def bk_if (c : Prop) [Decidable c] (A B : bk_R) : bk_R := if c then A else B
def bk_cV (r : bk_R) (K : bk_H → bk_R) : bk_R := match r with
  | some (none, h) => K h
  | _ => none
def bk_cI (r : bk_R) (K : Int32 → bk_H → bk_R) : bk_R := match r with
  | some (some (.int x), h) => K x h
  | _ => none
def bk_cJ (r : bk_R) (K : Int64 → bk_H → bk_R) : bk_R := match r with
  | some (some (.long x), h) => K x h
  | _ => none
def bk_cA (r : bk_R) (K : Nat → bk_H → bk_R) : bk_R := match r with
  | some (some (.ref x), h) => K x h
  | _ => none
def bk_pop : Nat → List Value → List Value → (List Value → List Value → bk_R) → bk_R
  | 0, st, acc, K => K acc st
  | _ + 1, [], _, _ => none
  | n + 1, v :: st, acc, K => bk_pop n st (v :: acc) K
def bk_sw : List (Int32 × Nat) → Int32 → Nat → (Nat → bk_R) → bk_R
  | [], _, d, K => K d
  | (k, t) :: ps, x, d, K => bk_if (x = k) (K t) (bk_sw ps x d K)
def bk_fields : Nat → List Value
  | 0 => [.ref 0, .ref 0, .ref 0, .ref 0, .int 0, .int 0, .int 0, .ref 0, .int 0, .int 0, .int 0, .ref 0, .ref 0, .ref 0, .int 0, .ref 0, .ref 0, .ref 0, .ref 0, .ref 0, .ref 0, .ref 0, .ref 0, .ref 0]
  | 1 => [.ref 0, .ref 0, .ref 0, .ref 0, .int 0, .int 0, .int 0, .int 0, .int 0, .int 0, .int 0, .int 0, .int 0, .ref 0, .ref 0]
  | 2 => [.int 0, .int 0, .int 0, .int 0, .ref 0]
  | 3 => [.ref 0]
  | 4 => [.int 0, .ref 0, .ref 0, .ref 0, .ref 0, .int 0, .int 0, .int 0, .int 0, .int 0, .int 0, .int 0, .int 0, .int 0, .int 0, .int 0, .ref 0, .ref 0, .ref 0, .int 0, .int 0, .ref 0, .ref 0, .ref 0, .ref 0, .ref 0, .ref 0, .ref 0, .ref 0, .ref 0, .ref 0, .ref 0, .ref 0]
  | 5 => [.int 0, .ref 0, .int 0, .int 0, .int 0, .int 0, .int 0, .int 0, .int 0, .int 0, .ref 0]
  | 7 => [.ref 0]
  | 8 => [.ref 0, .ref 0, .int 0]
  | 9 => [.ref 0, .ref 0, .int 0]
  | 11 => [.ref 0, .ref 0, .ref 0]
  | 12 => [.int 0]
  | 13 => [.int 0]
  | 14 => [.ref 0, .ref 0, .int 0]
  | _ => []
/-- what an array of a sort begins with -/
def bk_dflt : Nat → Value
  | 104 => .long 0
  | 105 => .ref 0
  | 106 => .ref 0
  | 107 => .ref 0
  | _ => .int 0
/-- the class of an array's elements -/
def bk_ec : Nat → Nat
  | 105 => 2
  | 106 => 3
  | _ => 1
/-- Sum.value, Truth.holds: by the receiver's class -/
def bk_dspS (h : bk_H) (x : Nat) (K : Nat → bk_R) : bk_R := match h.1 14 x 0 with
  | .ref _ => K 14001
  | _ => match h.1 13 x 0 with
    | .int _ => K 13001
    | _ => match h.1 12 x 0 with
      | .int _ => K 12001
      | _ => match h.1 11 x 0 with
        | .ref _ => K 11001
        | _ => none
def bk_dspT (h : bk_H) (x : Nat) (K : Nat → bk_R) : bk_R := match h.1 8 x 0 with
  | .ref _ => K 8001
  | _ => match h.1 9 x 0 with
    | .ref _ => K 9001
    | _ => match h.1 7 x 0 with
      | .ref _ => K 7001
      | _ => none
def bk_lcmp (x y : Int64) : Int32 := if y < x then 1 else if x = y then 0 else -1
def bk_ibin (f : Int32 → Int32 → Int32) (pc : Nat) (L st : List Value) (h : bk_H) (K : bk_K) : bk_R := match st with
  | b :: a :: st => bk_I b fun y => bk_I a fun x => K (pc + 1) L (.int (f x y) :: st) h
  | _ => none
def bk_lbin (f : Int64 → Int64 → Int64) (pc : Nat) (L st : List Value) (h : bk_H) (K : bk_K) : bk_R := match st with
  | b :: a :: st => bk_J b fun y => bk_J a fun x => K (pc + 1) L (.long (f x y) :: st) h
  | _ => none
def bk_lsh (f : Int64 → Int32 → Int64) (pc : Nat) (L st : List Value) (h : bk_H) (K : bk_K) : bk_R := match st with
  | b :: a :: st => bk_I b fun y => bk_J a fun x => K (pc + 1) L (.long (f x y) :: st) h
  | _ => none
def bk_iun (f : Int32 → Value) (pc : Nat) (L st : List Value) (h : bk_H) (K : bk_K) : bk_R := match st with
  | a :: st => bk_I a fun x => K (pc + 1) L (f x :: st) h
  | _ => none
def bk_lun (f : Int64 → Value) (pc : Nat) (L st : List Value) (h : bk_H) (K : bk_K) : bk_R := match st with
  | a :: st => bk_J a fun x => K (pc + 1) L (f x :: st) h
  | _ => none
def bk_ifz (c : Int32 → bk_R → bk_R → bk_R) (tgt pc : Nat) (L st : List Value) (h : bk_H) (K : bk_K) : bk_R := match st with
  | a :: st => bk_I a fun x => c x (K tgt L st h) (K (pc + 3) L st h)
  | _ => none
def bk_icm (c : Int32 → Int32 → bk_R → bk_R → bk_R) (tgt pc : Nat) (L st : List Value) (h : bk_H) (K : bk_K) : bk_R := match st with
  | b :: a :: st => bk_I b fun y => bk_I a fun x => c x y (K tgt L st h) (K (pc + 3) L st h)
  | _ => none
def bk_store (n i : Nat) (w : Bool) (pc : Nat) (L st : List Value) (v : Value) (h : bk_H) (K : bk_K) : bk_R :=
  bif w then (bif Nat.blt (i + 1) L.length then K (pc + n) (bk_st2 L i v) st h else none) else (bif Nat.blt i L.length then K (pc + n) (bk_st1 L i v) st h else none)
/-- an array's element read, by what the elements are (0 int, 1 long, 2 reference) -/
def bk_ald (w t pc : Nat) (L st : List Value) (h : bk_H) (K : bk_K) : bk_R := match st with
  | i :: r :: st => bk_I i fun j => bk_A r fun a => match w with
    | 0 => bk_I (h.1 t a (bk_ix j)) fun x => K (pc + 1) L (.int x :: st) h
    | 1 => bk_J (h.1 t a (bk_ix j)) fun x => K (pc + 1) L (.long x :: st) h
    | _ => bk_A (h.1 t a (bk_ix j)) fun x => K (pc + 1) L (.ref x :: st) h
  | _ => none
def bk_nar (t : Nat) (x : Int32) (K : Int32 → bk_R) : bk_R := match t with
  | 100 => K x
  | 101 => K x.toInt8.toInt32
  | 102 => bk_bl x (K x)
  | 103 => K x.toInt16.toInt32
  | _ => none
def bk_ast (w t pc : Nat) (L st : List Value) (h : bk_H) (K : bk_K) : bk_R := match st with
  | v :: i :: r :: st => bk_I i fun j => bk_A r fun a => match w with
    | 0 => bk_I v fun x => bk_nar t x fun y => bk_I (h.1 t a (bk_ix j)) fun _ => K (pc + 1) L st (bk_put h t a (bk_ix j) (.int y))
    | 1 => bk_J v fun x => bk_J (h.1 t a (bk_ix j)) fun _ => K (pc + 1) L st (bk_put h t a (bk_ix j) (.long x))
    | _ => bk_A v fun x => bk_A (h.1 t a (bk_ix j)) fun _ => bk_V (h.1 (bk_ec t) x 0) (K (pc + 1) L st (bk_put h t a (bk_ix j) (.ref x)))
  | _ => none
/-- the words below a call's arguments are at most so many -/
def bk_rm : List Value → Nat → Bool
  | [], _ => true
  | v :: st, n => match v with
    | .long _ => match n with
      | m + 2 => bk_rm st m
      | _ => false
    | _ => match n with
      | m + 1 => bk_rm st m
      | _ => false
def bk_ret (cl : bk_C) (m : Nat) (w : Nat) (args : List Value) (pc : Nat) (L st : List Value) (h : bk_H) (K : bk_K) : bk_R :=
  bif bk_rm st 8 then (match w with
    | 0 => bk_cV (cl m args h) fun h' => K (pc + 3) L st h'
    | 1 => bk_cI (cl m args h) fun x h' => K (pc + 3) L (.int x :: st) h'
    | 2 => bk_cJ (cl m args h) fun x h' => K (pc + 3) L (.long x :: st) h'
    | _ => bk_cA (cl m args h) fun x h' => K (pc + 3) L (.ref x :: st) h') else none
/-- a call: the method's number, its arguments (a receiver among them), what it gives back, the receiver's class -/
def bk_inv (cl : bk_C) (m n w c : Nat) (pc : Nat) (L st : List Value) (h : bk_H) (K : bk_K) : bk_R :=
  bk_pop n st [] fun args st => match args with
    | r :: _ => bk_A r fun x => bk_V (h.1 c x 0) (bk_ret cl m w args pc L st h K)
    | [] => none
def bk_mm (m : Nat) (pc : Nat) (L st : List Value) (h : bk_H) (K : bk_K) : bk_R := match st with
  | b :: a :: st => bif bk_rm st 8 then (match m with
    | 2001 => bk_I b fun y => bk_I a fun x => K (pc + 3) L (.int (if y ≤ x then x else y) :: st) h
    | 2002 => bk_I b fun y => bk_I a fun x => K (pc + 3) L (.int (if x ≤ y then x else y) :: st) h
    | 2003 => bk_J b fun y => bk_J a fun x => K (pc + 3) L (.long (if y ≤ x then x else y) :: st) h
    | _ => bk_J b fun y => bk_J a fun x => K (pc + 3) L (.long (if x ≤ y then x else y) :: st) h) else none
  | _ => none
def bk_fg : List Nat → List Value → List Value
  | [], L => L
  | i :: is, L => bk_fg is (bk_set L i bk_u)
def bk_fgK (fs : List Nat) (L : List Value) (K : List Value → bk_R) : bk_R := K (bk_fg fs L)
/-- an array of numbers: its length, of whichever of the four sorts it is -/
def bk_lenOf (h : bk_H) (a : Nat) (K : Int32 → bk_R) : bk_R := match h.1 201 a 0 with
  | .int n => K n
  | _ => match h.1 203 a 0 with
    | .int n => K n
    | _ => match h.1 200 a 0 with
      | .int n => K n
      | _ => bk_I (h.1 204 a 0) K
/-- an array of this sort, of another -/
def bk_inst (h : bk_H) (x a : Nat) (A B : bk_R) : bk_R := match h.1 (a + 100) x 0 with
  | .int _ => A
  | _ => bk_lenOf h x fun _ => B
/-- where an exception has been made: cells that nobody looks at -/
def bk_lost (h : bk_H) : bk_H := (h.1, h.2.1 + 3, h.2.2 + 400)
/-- Numbers.begins, whole -/
def bk_begins (L : List Value) (h : bk_H) : bk_R :=
  bk_A (bk_get L 0) fun x => bk_I (bk_get L 1) fun s => bk_I (bk_get L 2) fun n => bk_A (h.1 3 x 0) fun _ =>
    if n < 0 then some (some (.int 0), bk_lost h) else
      bk_len n fun k => if s = 0 then some (some (.int 1), bk_put (bk_newA h 101 k (.int 0)) 3 x 0 (.ref h.2.1))
        else if s = 1 then some (some (.int 1), bk_put (bk_newA h 103 k (.int 0)) 3 x 0 (.ref h.2.1))
        else if s = 2 then some (some (.int 1), bk_put (bk_newA h 100 k (.int 0)) 3 x 0 (.ref h.2.1))
        else some (some (.int 1), bk_put (bk_newA h 104 k (.long 0)) 3 x 0 (.ref h.2.1))
/-- BackRescue.write, whole -/
def bk_write (cl : bk_C) (puts number tray : Nat) (L : List Value) (h : bk_H) : bk_R :=
  bk_A (bk_get L 0) fun x => bk_I (bk_get L 1) fun t => bk_I (bk_get L 2) fun i => bk_J (bk_get L 3) fun v =>
    bk_cI (cl tray [.int t] h) fun b h => if b = 0 then some (some (.long (-2)), h) else
      bk_A (h.1 0 x 21) fun ts => bk_A (h.1 106 ts (bk_ix t)) fun nb => bk_A (h.1 3 nb 0) fun a =>
        if a = 0 then some (some (.long (-6)), bk_lost h) else
          bk_lenOf h a fun n => if i < 0 ∨ n ≤ i then some (some (.long (-7)), bk_lost h) else
            bk_V (h.1 3 nb 0) (bk_cV (cl puts [.ref nb, .int i, .long v] h) fun h1 => bk_A (h1.1 0 x 21) fun ts => bk_A (h1.1 106 ts (bk_ix t)) fun nb =>
              bk_V (h1.1 3 nb 0) (bk_cJ (cl number [.ref nb, .int i] h1) fun r h2 => some (some (.long r), h2)))
/-- an int that a method of this type gives back: int, boolean, byte, char -/
def bk_rn (a : Nat) (x : Int32) (K : bk_R) : bk_R := match a with
  | 0 => K
  | 1 => bk_bl x K
  | 2 => if x.toInt8.toInt32 = x then K else none
  | _ => if (x.toUInt32 % 65536).toInt32 = x then K else none
/-- an object of a class is there (Sum, Truth: of one that extends it) -/
def bk_oi (h : bk_H) (a x : Nat) (K : bk_R) : bk_R := match a with
  | 10 => bk_dspS h x fun _ => K
  | 6 => bk_dspT h x fun _ => K
  | _ => bk_V (h.1 a x 0) K
/-- what an instruction does -/
def bk_sem (o : bk_O) : bk_S := fun cl pc L st h K => match o with
  | (ins, n, a, b, c, d, v, ps, fs) => bk_fgK fs L fun L => match ins with
    | .iconst _ => K (pc + n) L (v :: st) h
    | .bipush _ => K (pc + n) L (v :: st) h
    | .sipush _ => K (pc + n) L (v :: st) h
    | .lconst _ => K (pc + n) L (v :: st) h
    | .ldc _ => K (pc + n) L (v :: st) h
    | .ldc_w _ => K (pc + n) L (v :: st) h
    | .ldc2_w _ => K (pc + n) L (v :: st) h
    | .aconst_null => K (pc + n) L (.ref 0 :: st) h
    | .getstatic _ => K (pc + n) L (v :: st) h
    | .iload_n _ => bk_I (bk_get L a) fun x => K (pc + n) L (.int x :: st) h
    | .iload _ => bk_I (bk_get L a) fun x => K (pc + n) L (.int x :: st) h
    | .lload_n _ => bk_J (bk_get L a) fun x => K (pc + n) L (.long x :: st) h
    | .lload _ => bk_J (bk_get L a) fun x => K (pc + n) L (.long x :: st) h
    | .aload_n _ => bk_A (bk_get L a) fun x => K (pc + n) L (.ref x :: st) h
    | .aload _ => bk_A (bk_get L a) fun x => K (pc + n) L (.ref x :: st) h
    | .istore_n _ => match st with
      | v :: st => bk_I v fun x => bk_store n a false pc L st (.int x) h K
      | _ => none
    | .istore _ => match st with
      | v :: st => bk_I v fun x => bk_store n a false pc L st (.int x) h K
      | _ => none
    | .astore_n _ => match st with
      | v :: st => bk_A v fun x => bk_store n a false pc L st (.ref x) h K
      | _ => none
    | .astore _ => match st with
      | v :: st => bk_A v fun x => bk_store n a false pc L st (.ref x) h K
      | _ => none
    | .lstore_n _ => match st with
      | v :: st => bk_J v fun x => bk_store n a true pc L st (.long x) h K
      | _ => none
    | .lstore _ => match st with
      | v :: st => bk_J v fun x => bk_store n a true pc L st (.long x) h K
      | _ => none
    | .iinc _ _ => bk_I v fun k => bk_I (bk_get L a) fun x => bk_store n a false pc L st (.int (x + k)) h K
    | .iadd => bk_ibin (fun x y => x + y) pc L st h K
    | .isub => bk_ibin (fun x y => x - y) pc L st h K
    | .imul => bk_ibin (fun x y => x * y) pc L st h K
    | .iand => bk_ibin (fun x y => x &&& y) pc L st h K
    | .ior => bk_ibin (fun x y => x ||| y) pc L st h K
    | .ixor => bk_ibin (fun x y => x ^^^ y) pc L st h K
    | .ishl => bk_ibin (fun x y => x <<< (y &&& 31)) pc L st h K
    | .ishr => bk_ibin (fun x y => x >>> (y &&& 31)) pc L st h K
    | .iushr => bk_ibin (fun x y => (x.toUInt32 >>> (y.toUInt32 &&& Int32.toUInt32 31)).toInt32) pc L st h K
    | .idiv => match st with
      | b :: a :: st => bk_I b fun y => bk_I a fun x => bk_nz y (K (pc + 1) L (.int (x / y) :: st) h)
      | _ => none
    | .irem => match st with
      | b :: a :: st => bk_I b fun y => bk_I a fun x => bk_nz y (K (pc + 1) L (.int (x - x / y * y) :: st) h)
      | _ => none
    | .ladd => bk_lbin (fun x y => x + y) pc L st h K
    | .lsub => bk_lbin (fun x y => x - y) pc L st h K
    | .lmul => bk_lbin (fun x y => x * y) pc L st h K
    | .land => bk_lbin (fun x y => x &&& y) pc L st h K
    | .lor => bk_lbin (fun x y => x ||| y) pc L st h K
    | .lshl => bk_lsh (fun x y => x <<< (y.toInt64 &&& 63)) pc L st h K
    | .lshr => bk_lsh (fun x y => x >>> (y.toInt64 &&& 63)) pc L st h K
    | .ldiv => match st with
      | b :: a :: st => bk_J b fun y => bk_J a fun x => bk_nzJ y (K (pc + 1) L (.long (x / y) :: st) h)
      | _ => none
    | .lrem => match st with
      | b :: a :: st => bk_J b fun y => bk_J a fun x => bk_nzJ y (K (pc + 1) L (.long (x - x / y * y) :: st) h)
      | _ => none
    | .lcmp => match st with
      | b :: a :: st => bk_J b fun y => bk_J a fun x => K (pc + 1) L (.int (bk_lcmp x y) :: st) h
      | _ => none
    | .i2l => bk_iun (fun x => .long x.toInt64) pc L st h K
    | .i2b => bk_iun (fun x => .int x.toInt8.toInt32) pc L st h K
    | .i2s => bk_iun (fun x => .int x.toInt16.toInt32) pc L st h K
    | .i2c => bk_iun (fun x => .int (x.toUInt32 % 65536).toInt32) pc L st h K
    | .l2i => bk_lun (fun x => .int x.toInt32) pc L st h K
    | .pop => match st with
      | .int _ :: st => K (pc + 1) L st h
      | .ref _ :: st => K (pc + 1) L st h
      | _ => none
    | .pop2 => match st with
      | .long _ :: st => K (pc + 1) L st h
      | _ => none
    | .dup => match st with
      | .int x :: st => K (pc + 1) L (.int x :: .int x :: st) h
      | .ref x :: st => K (pc + 1) L (.ref x :: .ref x :: st) h
      | _ => none
    | .dup2 => match st with
      | .int x :: .ref y :: st => K (pc + 1) L (.int x :: .ref y :: .int x :: .ref y :: st) h
      | .long x :: st => K (pc + 1) L (.long x :: .long x :: st) h
      | _ => none
    | .ifCond q _ => match q with
      | .eq => bk_ifz (fun x A B => bk_if (x = 0) A B) a pc L st h K
      | .ne => bk_ifz (fun x A B => bk_if (x = 0) B A) a pc L st h K
      | .lt => bk_ifz (fun x A B => bk_if (x < 0) A B) a pc L st h K
      | .ge => bk_ifz (fun x A B => bk_if (0 ≤ x) A B) a pc L st h K
      | .gt => bk_ifz (fun x A B => bk_if (0 < x) A B) a pc L st h K
      | .le => bk_ifz (fun x A B => bk_if (x ≤ 0) A B) a pc L st h K
    | .if_icmp q _ => match q with
      | .eq => bk_icm (fun x y A B => bk_if (x = y) A B) a pc L st h K
      | .ne => bk_icm (fun x y A B => bk_if (x = y) B A) a pc L st h K
      | .lt => bk_icm (fun x y A B => bk_if (x < y) A B) a pc L st h K
      | .ge => bk_icm (fun x y A B => bk_if (y ≤ x) A B) a pc L st h K
      | .gt => bk_icm (fun x y A B => bk_if (y < x) A B) a pc L st h K
      | .le => bk_icm (fun x y A B => bk_if (x ≤ y) A B) a pc L st h K
    | .ifnull _ => match st with
      | v :: st => bk_A v fun x => bk_if (x = 0) (K a L st h) (K (pc + 3) L st h)
      | _ => none
    | .ifnonnull _ => match st with
      | v :: st => bk_A v fun x => bk_if (x = 0) (K (pc + 3) L st h) (K a L st h)
      | _ => none
    | .goto _ => K a L st h
    | .tableswitch _ _ _ _ => match st with
      | v :: st => bk_I v fun x => bk_sw ps x a fun t => K t L st h
      | _ => none
    | .getfield _ => match st with
      | r :: st => bk_A r fun x => match c with
        | 0 => bk_I (h.1 a x b) fun y => K (pc + 3) L (.int y :: st) h
        | _ => bk_A (h.1 a x b) fun y => K (pc + 3) L (.ref y :: st) h
      | _ => none
    | .putfield _ => match st with
      | v :: r :: st => bk_A r fun x => match c with
        | 0 => bk_I v fun y => bk_I (h.1 a x b) fun _ => K (pc + 3) L st (bk_put h a x b (.int y))
        | 2 => bk_I v fun y => bk_bl y (bk_I (h.1 a x b) fun _ => K (pc + 3) L st (bk_put h a x b (.int y)))
        | _ => bk_A v fun y => bk_A (h.1 a x b) fun _ => K (pc + 3) L st (bk_put h a x b (.ref y))
      | _ => none
    | .new _ => K (pc + 3) L (.ref h.2.1 :: st) (bk_new h a (bk_fields a))
    | .newarray _ => match st with
      | v :: st => bk_I v fun x => bk_len x fun k => K (pc + 2) L (.ref h.2.1 :: st) (bk_newA h a k (bk_dflt a))
      | _ => none
    | .anewarray _ => match st with
      | v :: st => bk_I v fun x => bk_len x fun k => K (pc + 3) L (.ref h.2.1 :: st) (bk_newA h a k (bk_dflt a))
      | _ => none
    | .arraylength => match st with
      | r :: st => bk_A r fun x => bk_I (h.1 (a + 100) x 0) fun y => K (pc + 1) L (.int y :: st) h
      | _ => none
    | .iaload => bk_ald 0 a pc L st h K
    | .baload => bk_ald 0 a pc L st h K
    | .saload => bk_ald 0 a pc L st h K
    | .laload => bk_ald 1 a pc L st h K
    | .aaload => bk_ald 2 a pc L st h K
    | .iastore => bk_ast 0 a pc L st h K
    | .bastore => bk_ast 0 a pc L st h K
    | .sastore => bk_ast 0 a pc L st h K
    | .lastore => bk_ast 1 a pc L st h K
    | .aastore => bk_ast 2 a pc L st h K
    | .checkcast _ => match st with
      | r :: st => bk_A r fun x => bk_I (h.1 (a + 100) x 0) fun _ => K (pc + 3) L (.ref x :: st) h
      | _ => none
    | .instanceof _ => match st with
      | r :: st => bk_A r fun x => bk_inst h x a (K (pc + 3) L (.int 1 :: st) h) (K (pc + 3) L (.int 0 :: st) h)
      | _ => none
    | .invokestatic _ => match d with
      | 0 => bk_pop b st [] fun args st => bk_ret cl a c args pc L st h K
      | _ => bk_mm a pc L st h K
    | .invokespecial _ => match d with
      | 99 => match st with
        | u :: st => bif bk_rm st 8 then bk_A u fun x => bk_oi h a x (K (pc + 3) L st h) else none
        | _ => none
      | _ => bk_inv cl a b c d pc L st h K
    | .invokevirtual _ => match d with
      | 98 => bk_pop b st [] fun args st => match args with
        | r :: _ => bk_A r fun x => bk_dspS h x fun m => bk_ret cl m c args pc L st h K
        | [] => none
      | 97 => bk_pop b st [] fun args st => match args with
        | r :: _ => bk_A r fun x => bk_dspT h x fun m => bk_ret cl m c args pc L st h K
        | [] => none
      | _ => bk_inv cl a b c d pc L st h K
    | .athrow => match d with
      | 1 => bk_begins L h
      | 2 => bk_write cl a b c L h
      | _ => none
    | .ireturn => match st with
      | [v] => bk_I v fun x => bk_rn a x (some (some (.int x), h))
      | _ => none
    | .lreturn => match st with
      | [v] => bk_J v fun x => some (some (.long x), h)
      | _ => none
    | .areturn => match st with
      | [v] => bk_A v fun x => some (some (.ref x), h)
      | _ => none
    | .return_ => match st with
      | [] => some (none, h)
      | _ => none
    | _ => none
/-- the machine's steps: at most so many -/
def bk_run (C : Nat → bk_O) (cl : bk_C) : Nat → bk_K
  | 0 => fun _ _ _ _ => none
  | n + 1 => fun pc L st h => bk_sem (C pc) cl pc L st h (bk_run C cl n)
/-- where they lead -/
noncomputable def bk_den (C : Nat → bk_O) (cl : bk_C) : bk_K := fun pc L st h => @dite _ (∃ n r, bk_run C cl n pc L st h = some r) (Classical.propDecidable _) (fun H => some H.choose_spec.choose) (fun _ => none)
