/-! PART am: an abstract machine. Heap: ids are numbers, a cell is an array or an object's fields; its step is read off the bytes by 'decode' and the link tables k_*. A step is one equation of a_run. -/
abbrev a_C : Type := (FieldType × vp_A) ⊕ (Nat × List Value)
abbrev a_H : Type := Nat × Nat × (Nat → a_C)
abbrev a_L : Type := List (Option Value)
abbrev a_G : Type := Nat × a_L × List Value × a_H
abbrev a_R : Type := (Option Value ⊕ Nat) × a_H
abbrev a_O : Type := Option (a_G ⊕ a_R)
def a_set (h : a_H) (i : Nat) (c : a_C) : a_H := (h.1, h.2.1, fun q => if q = i then c else h.2.2 q)
def a_add (h : a_H) (c : a_C) (n : Nat) : a_H := (h.1 + 1, h.2.1 + n, fun q => if q = h.1 then c else h.2.2 q)
/-- the class's number of an object -/
def a_cls (h : a_H) (i : Nat) : Option Nat := match h.2.2 i with
  | .inr (c, _) => some c
  | _ => none
/-- the class's number of what an id means: a box, a String constant, an object -/
def a_kls (h : a_H) (i : Nat) : Option Nat := if i < 256 then some 21 else if 1024 ≤ i then a_cls h i else if 700 ≤ i ∧ i < 713 then some 15 else none
/-- an array of ints of the run's own -/
def a_isArr (h : a_H) (i : Nat) : Bool := match h.2.2 i with
  | .inl (.int, _, _) => decide (1024 ≤ i)
  | _ => false
/-- it may stand in an array of Objects -/
def a_kob (h : a_H) (y : Nat) : Bool := match a_kls h y with
  | some c => decide (k_cast c 28 = some true)
  | none => false
def a_gf (h : a_H) (i k : Nat) (cs : List Nat) : Option Value := match h.2.2 i with
  | .inr (c, fs) => if cs.contains c = true ∧ 1024 ≤ i then fs[k]? else none
  | _ => none
def a_pf (h : a_H) (i k : Nat) (cs : List Nat) (v : Value) : Option a_H := match h.2.2 i with
  | .inr (c, fs) => if cs.contains c = true ∧ k < fs.length ∧ 1024 ≤ i then some (a_set h i (.inr (c, fs.set k v))) else none
  | _ => none
def a_out (j : Int32) (n : Nat) : Bool := decide (j < 0 ∨ n ≤ j.toNatClampNeg)
def a_rdi (h : a_H) (i : Nat) (ok : FieldType → Bool) (j : Int32) : Option Value := match h.2.2 i with
  | .inl (ty, n, .inl f) => if ok ty = true ∧ a_out j n = false ∧ (1024 ≤ i ∨ (i = 650 ∧ ty = .int)) then some (.int (f j.toNatClampNeg)) else none
  | _ => none
def a_rdl (h : a_H) (i : Nat) (j : Int32) : Option Value := match h.2.2 i with
  | .inl (.long, n, .inr (.inl f)) => if a_out j n = false ∧ 1024 ≤ i then some (.long (f j.toNatClampNeg)) else none
  | _ => none
def a_rdf (h : a_H) (i : Nat) (j : Int32) : Option Value := match h.2.2 i with
  | .inl (.float, n, .inr (.inr (.inl f))) => if a_out j n = false ∧ 1024 ≤ i then some (.float (f j.toNatClampNeg)) else none
  | _ => none
def a_nsp (r : Option Nat) : Bool := match r with
  | some y => decide (y ≠ 600) && decide (y ≠ 601)
  | none => true
def a_rdq (h : a_H) (i : Nat) (j : Int32) : Option Value := match h.2.2 i with
  | .inl (.object C, n, .inr (.inr (.inr (.inr f)))) => if C = "java/lang/Object" ∧ a_out j n = false ∧ 1024 ≤ i ∧ a_nsp (f j.toNatClampNeg) = true then some (va_rf (f j.toNatClampNeg)) else none
  | _ => none
def a_wri (h : a_H) (i : Nat) (ok : FieldType → Bool) (j x : Int32) : Option a_H := match h.2.2 i with
  | .inl (ty, n, .inl f) => if ok ty = true ∧ a_out j n = false ∧ 1024 ≤ i then some (a_set h i (.inl (ty, n, .inl (upd f j.toNatClampNeg (vp_nar ty x))))) else none
  | _ => none
def a_wrl (h : a_H) (i : Nat) (j : Int32) (x : Int64) : Option a_H := match h.2.2 i with
  | .inl (.long, n, .inr (.inl f)) => if a_out j n = false ∧ 1024 ≤ i then some (a_set h i (.inl (.long, n, .inr (.inl (vp_updL f j.toNatClampNeg x))))) else none
  | _ => none
def a_wrf (h : a_H) (i : Nat) (j : Int32) (x : UInt32) : Option a_H := match h.2.2 i with
  | .inl (.float, n, .inr (.inr (.inl f))) => if a_out j n = false ∧ 1024 ≤ i then some (a_set h i (.inl (.float, n, .inr (.inr (.inl (vf_upd f j.toNatClampNeg x)))))) else none
  | _ => none
/-- a store into an array of Objects: null or an object of a known class or a box -/
def a_wrq (h : a_H) (i : Nat) (j : Int32) (v : Value) : Option a_H := match h.2.2 i with
  | .inl (.object C, n, .inr (.inr (.inr (.inr f)))) => if C = "java/lang/Object" ∧ a_out j n = false ∧ 1024 ≤ i then (match v with
    | .null => some (a_set h i (.inl (.object C, n, .inr (.inr (.inr (.inr (va_up f j.toNatClampNeg none)))))))
    | .ref y => if a_kob h y = true then some (a_set h i (.inl (.object C, n, .inr (.inr (.inr (.inr (va_up f j.toNatClampNeg (some y))))))) ) else none
    | _ => none) else none
  | _ => none
/-- the array types that are known, by their places -/
def k_ty : FieldType → Option Nat
  | .int => some 0
  | .boolean => some 1
  | .byte => some 2
  | .long => some 3
  | .float => some 4
  | .object C => if C = "java/lang/Object" then some 5 else none
  | _ => none
def a_isl (x : (Nat → Int32) ⊕ (Nat → Int64) ⊕ (Nat → UInt32) ⊕ (Nat → UInt64) ⊕ (Nat → Option Nat)) : Bool := match x with
  | .inl _ => true
  | _ => false
def a_len (h : a_H) (i : Nat) : Option Value := match h.2.2 i with
  | .inl (ty, n, x) => (match k_ty ty with
    | some _ => if 1024 ≤ i ∨ (i = 650 ∧ ty = .int ∧ a_isl x = true) then some (.int (Int32.ofNat n)) else none
    | none => none)
  | _ => none
/-- a new array's contents, and the most of its length -/
def a_zero : FieldType → Nat → Option vp_A
  | .int, n => some (n, .inl fun _ => 0)
  | .boolean, n => some (n, .inl fun _ => 0)
  | .byte, n => some (n, .inl fun _ => 0)
  | .long, n => some (n, .inr (.inl fun _ => 0))
  | .float, n => some (n, .inr (.inr (.inl fun _ => 0)))
  | .object C, n => if C = "java/lang/Object" then some (n, .inr (.inr (.inr (.inr fun _ => none)))) else none
  | _, _ => none
def a_newa (h : a_H) (ty : FieldType) (n : Int32) : Option (Nat × a_H) := if n < 0 ∨ 100000 < n.toNatClampNeg then none else
  match a_zero ty n.toNatClampNeg with
  | some a => some (h.1, a_add h (.inl (ty, a)) n.toNatClampNeg)
  | none => none
def a_int (ty : FieldType) : Bool := decide (ty = .int)
def a_bz (ty : FieldType) : Bool := decide (ty = .byte) || decide (ty = .boolean)
def a_nx (pc : Nat) (L : a_L) (st : List Value) (h : a_H) : a_O := some (.inl (pc, L, st, h))
def a_to (off : Int) (pc : Nat) (L : a_L) (st : List Value) (h : a_H) : a_O := if (0 : Int) ≤ (pc : Int) + off then a_nx ((pc : Int) + off).toNat L st h else none
def a_br (b : Bool) (off : Int) (pc : Nat) (L : a_L) (st : List Value) (h : a_H) : a_O := if (0 : Int) ≤ (pc : Int) + off then (if b = true then a_nx ((pc : Int) + off).toNat L st h else a_nx (pc + 3) L st h) else none
def a_cmp : Jvm.ClassFile.Cond → Int32 → Int32 → Bool
  | .eq, x, y => decide (x = y)
  | .ne, x, y => decide (x ≠ y)
  | .lt, x, y => decide (x < y)
  | .ge, x, y => decide (y ≤ x)
  | .gt, x, y => decide (y < x)
  | .le, x, y => decide (x ≤ y)
def a_isI : Value → Bool
  | .int _ => true
  | _ => false
def a_isF : Value → Bool
  | .float _ => true
  | _ => false
def a_isA : Value → Bool
  | .ref _ => true
  | .null => true
  | _ => false
def a_ld (ok : Value → Bool) (k n pc : Nat) (L : a_L) (st : List Value) (h : a_H) : a_O := match L[k]? with
  | some (some v) => if ok v = true then a_nx (pc + n) L (v :: st) h else none
  | _ => none
def a_st (ok : Value → Bool) (k n pc : Nat) (L : a_L) (st : List Value) (h : a_H) : a_O := match st with
  | v :: r => if ok v = true ∧ k < L.length then a_nx (pc + n) (L.set k (some v)) r h else none
  | _ => none
def a_i2 (f : Int32 → Int32 → Option Value) (pc : Nat) (L : a_L) (st : List Value) (h : a_H) : a_O := match st with
  | .int y :: .int x :: r => (match f x y with
    | some v => a_nx (pc + 1) L (v :: r) h
    | none => none)
  | _ => none
def a_i1 (f : Int32 → Value) (pc : Nat) (L : a_L) (st : List Value) (h : a_H) : a_O := match st with
  | .int x :: r => a_nx (pc + 1) L (f x :: r) h
  | _ => none
def a_ar (f : Nat → Int32 → Option Value) (pc : Nat) (L : a_L) (st : List Value) (h : a_H) : a_O := match st with
  | .int j :: .ref i :: r => (match f i j with
    | some v => a_nx (pc + 1) L (v :: r) h
    | none => none)
  | _ => none
def a_aw (f : Nat → Int32 → Value → Option a_H) (pc : Nat) (L : a_L) (st : List Value) : a_O := match st with
  | v :: .int j :: .ref i :: r => (match f i j v with
    | some h => a_nx (pc + 1) L r h
    | none => none)
  | _ => none
def a_cat (st : List Value) : Nat := (st.map fun v => v.category).sum
/-- the handler of a throw at pc: own class's number, of the object's class c -/
def a_hnd (M : a_M) (pc c : Nat) : List (Nat × Nat × Nat × Nat) → Option (Option Nat)
  | [] => some none
  | (s, e, t, k) :: r => if s ≤ pc ∧ pc < e then (match k_cls (mCls M) k with
      | some c' => (match k_cast c c' with
        | some true => some (some t)
        | some false => a_hnd M pc c r
        | none => none)
      | none => none) else a_hnd M pc c r
def a_thr (M : a_M) (pc : Nat) (L : a_L) (x : Nat) (h : a_H) : a_O := match a_cls h x with
  | some c => if 1024 ≤ x then (match a_hnd M pc c (mHnd M) with
    | some (some t) => a_nx t L [.ref x] h
    | some none => some (.inr (.inr x, h))
    | none => none) else none
  | none => none
/-- what a call does with the callee's answer -/
def a_bk (M : a_M) (pc : Nat) (L : a_L) (r : List Value) (a : Option a_R) : a_O := match a with
  | some (.inl v, h') => a_nx (pc + 3) L (v.toList ++ r) h'
  | some (.inr x, h') => a_thr M pc L x h'
  | none => none
def a_rcv (h : a_H) (cs : List Nat) : List Value → Bool
  | .ref i :: _ => (match a_kls h i with
    | some c => cs.contains c
    | none => false)
  | _ => false
def a_new0 (v : Value) : Bool := match v with
  | .ref i => decide (1024 ≤ i)
  | _ => false
def a_obj (pc : Nat) (L : a_L) (st : List Value) (h : a_H) : a_O := match st with
  | .ref i :: r => if 1024 ≤ i ∧ a_cat r ≤ 8 then a_nx (pc + 3) L r h else none
  | _ => none
def a_cln (pc : Nat) (L : a_L) (st : List Value) (h : a_H) : a_O := match st with
  | .ref i :: r => (match h.2.2 i with
    | .inl (.int, n, .inl f) => if 1024 ≤ i ∧ a_cat r ≤ 8 then a_nx (pc + 3) L (.ref h.1 :: r) (a_add h (.inl (.int, n, .inl f)) n) else none
    | _ => none)
  | _ => none
def a_cpy (pc : Nat) (L : a_L) (st : List Value) (h : a_H) : a_O := match st with
  | .int n :: .int dp :: .ref d :: .int sp :: .ref s :: r => (match h.2.2 s, h.2.2 d with
    | .inl (.byte, ns, .inl f), .inl (.byte, nd, .inl g) => if (1024 ≤ s ∧ 1024 ≤ d ∧ s ≠ d) ∧ (¬ sp < 0 ∧ ¬ dp < 0 ∧ ¬ n < 0) ∧ sp.toNatClampNeg + n.toNatClampNeg ≤ ns ∧ dp.toNatClampNeg + n.toNatClampNeg ≤ nd ∧ (List.range n.toNatClampNeg).all (fun i => fits .byte (.int (f (sp.toNatClampNeg + i)))) = true ∧ a_cat r ≤ 8 then
        a_nx (pc + 3) L r (a_set h d (.inl (.byte, nd, .inl (va_cpy f g sp.toNatClampNeg dp.toNatClampNeg n.toNatClampNeg)))) else none
    | _, _ => none)
  | _ => none
def a_gca (pc : Nat) (L : a_L) (st : List Value) (h : a_H) : a_O := match st with
  | .ref i :: r => (match a_gf h i 0 [3, 4, 5, 9, 10, 11] with
    | some v => if 1024 ≤ i ∧ a_cat r ≤ 8 ∧ a_isA v = true then a_nx (pc + 3) L ((if v = .ref i then .null else v) :: r) h else none
    | none => none)
  | _ => none
def a_fil (pc : Nat) (L : a_L) (st : List Value) (h : a_H) : a_O := match st with
  | .ref i :: r => if 1024 ≤ i ∧ a_cat r ≤ 8 ∧ a_gf h i 1 [3, 4, 5, 9, 10, 11] = some (.ref 600) ∧ a_gf h i 4 [3, 4, 5, 9, 10, 11] = some .null then a_nx (pc + 3) L (.ref i :: r) h else none
  | _ => none
def a_m2 (f : Int32 → Int32 → Int32) (pc : Nat) (L : a_L) (st : List Value) (h : a_H) : a_O := match st with
  | .int y :: .int x :: r => if a_cat r ≤ 8 then a_nx (pc + 3) L (.int (f x y) :: r) h else none
  | _ => none
def a_mab (pc : Nat) (L : a_L) (st : List Value) (h : a_H) : a_O := match st with
  | .int x :: r => if a_cat r ≤ 8 then a_nx (pc + 3) L (.int (if 0 ≤ x then x else 0 - x) :: r) h else none
  | _ => none
def a_gen (call : a_M → List Value → a_H → Option a_R) (M : a_M) (kd n : Nat) (cs : List Nat) (M' : a_M) (pc : Nat) (L : a_L) (st : List Value) (h : a_H) : a_O :=
  if n ≤ st.length ∧ a_cat (st.drop n) ≤ 8 ∧ (kd = 0 ∨ ((kd = 1 ∨ kd = 3 ∨ kd = 4) ∧ a_rcv h cs (st.take n).reverse = true) ∨ (kd = 2 ∧ a_new0 (((st.take n).reverse).headD .null) = true)) then
    a_bk M pc L (st.drop n) (call M' (st.take n).reverse h) else none
/-- a call: kinds 0 static, 1 virtual, 2 constructor, 3 of the superclass, 4 private of the superclass; 20 Object's constructor, 21 clone of an array, 22 arraycopy, 23 getCause, 24 fillInStackTrace, 25 max, 26 min, 27 abs -/
def a_inv (call : a_M → List Value → a_H → Option a_R) (M : a_M) (idx : Nat) (knds : List Nat) (pc : Nat) (L : a_L) (st : List Value) (h : a_H) : a_O := match k_mth (mCls M) idx with
  | some (kd, n, cs, M') => if knds.contains kd = true then
    (match kd with
    | 20 => a_obj pc L st h
    | 21 => a_cln pc L st h
    | 22 => a_cpy pc L st h
    | 23 => a_gca pc L st h
    | 24 => a_fil pc L st h
    | 25 => a_m2 (fun x y => if x < y then y else x) pc L st h
    | 26 => a_m2 (fun x y => if y < x then y else x) pc L st h
    | 27 => a_mab pc L st h
    | kd => a_gen call M kd n cs M' pc L st h) else none
  | none => none
/-- a switch's offset -/
def a_tab (dflt lo hi : Int) (offs : Array Int) (x : Int32) : Option Int := if x.toInt < lo ∨ hi < x.toInt then some dflt else offs[(x.toInt - lo).toNat]?
def a_retA (M : a_M) : Bool := match mRet M with
  | some (.object _) => true
  | some (.array _) => true
  | _ => false
def a_retI (M : a_M) (x : Int32) : Bool := match mRet M with
  | some ty => (decide (ty = .int) || decide (ty = .boolean) || decide (ty = .char)) && decide (narrow ty (.int x) = .int x)
  | none => false
def a_ins (call : a_M → List Value → a_H → Option a_R) (M : a_M) (ins : Instr) (pc : Nat) (L : a_L) (st : List Value) (h : a_H) : a_O := match ins with
  | .iconst n => a_nx (pc + 1) L (.int (Int32.ofInt n) :: st) h
  | .bipush n => a_nx (pc + 2) L (.int (Int8.ofInt n).toInt32 :: st) h
  | .sipush n => a_nx (pc + 3) L (.int (Int16.ofInt n).toInt32 :: st) h
  | .lconst n => a_nx (pc + 1) L (.long (Int64.ofNat (n : Nat)) :: st) h
  | .fconst n => if n = 0 then a_nx (pc + 1) L (.float FP.fconst0 :: st) h else none
  | .aconst_null => a_nx (pc + 1) L (.null :: st) h
  | .ldc i => (match k_ldc (mCls M) i with
    | some v => a_nx (pc + 2) L (v :: st) h
    | none => none)
  | .ldc2_w i => (match k_ldl (mCls M) i with
    | some v => a_nx (pc + 3) L (.long v :: st) h
    | none => none)
  | .getstatic i => (match k_gst (mCls M) i with
    | some v => a_nx (pc + 3) L (v :: st) h
    | none => none)
  | .iload_n k => a_ld a_isI k 1 pc L st h
  | .iload k => a_ld a_isI k 2 pc L st h
  | .aload_n k => a_ld a_isA k 1 pc L st h
  | .aload k => a_ld a_isA k 2 pc L st h
  | .fload_n k => a_ld a_isF k 1 pc L st h
  | .fload k => a_ld a_isF k 2 pc L st h
  | .istore_n k => a_st a_isI k 1 pc L st h
  | .istore k => a_st a_isI k 2 pc L st h
  | .astore_n k => a_st a_isA k 1 pc L st h
  | .astore k => a_st a_isA k 2 pc L st h
  | .fstore_n k => a_st a_isF k 1 pc L st h
  | .fstore k => a_st a_isF k 2 pc L st h
  | .iinc k n => (match L[k]? with
    | some (some (.int x)) => a_nx (pc + 3) (L.set k (some (.int (x + Int32.ofInt n)))) st h
    | _ => none)
  | .iadd => a_i2 (fun x y => some (.int (x + y))) pc L st h
  | .isub => a_i2 (fun x y => some (.int (x - y))) pc L st h
  | .imul => a_i2 (fun x y => some (.int (x * y))) pc L st h
  | .idiv => a_i2 (fun x y => if y = 0 then none else some (.int (x / y))) pc L st h
  | .irem => a_i2 (fun x y => if y = 0 then none else some (.int (x - x / y * y))) pc L st h
  | .iand => a_i2 (fun x y => some (.int (x &&& y))) pc L st h
  | .ior => a_i2 (fun x y => some (.int (x ||| y))) pc L st h
  | .ixor => a_i2 (fun x y => some (.int (x ^^^ y))) pc L st h
  | .ishl => a_i2 (fun x y => some (.int (x <<< (y &&& 31)))) pc L st h
  | .ishr => a_i2 (fun x y => some (.int (x >>> (y &&& 31)))) pc L st h
  | .ineg => a_i1 (fun x => .int (-x)) pc L st h
  | .i2l => a_i1 (fun x => .long x.toInt64) pc L st h
  | .i2b => a_i1 (fun x => .int x.toInt8.toInt32) pc L st h
  | .i2c => a_i1 (fun x => .int (x.toUInt32 % 65536).toInt32) pc L st h
  | .i2f => a_i1 (fun x => .float (FP.i2f x)) pc L st h
  | .lcmp => (match st with
    | .long y :: .long x :: r => a_nx (pc + 1) L (.int (lg_cmp x y) :: r) h
    | _ => none)
  | .fdiv => (match st with
    | .float y :: .float x :: r => if FP.fdiv x y &&& 0x7fffffff ≤ 0x7f800000 then a_nx (pc + 1) L (.float (FP.fdiv x y) :: r) h else none
    | _ => none)
  | .fcmp op => (match st with
    | .float y :: .float x :: r => a_nx (pc + 1) L (.int (Op.cmpValue (FP.fcmp x y) op) :: r) h
    | _ => none)
  | .dup => (match st with
    | v :: r => if v.category = 1 then a_nx (pc + 1) L (v :: v :: r) h else none
    | _ => none)
  | .pop => (match st with
    | v :: r => if v.category = 1 then a_nx (pc + 1) L r h else none
    | _ => none)
  | .dup_x1 => (match st with
    | v :: w :: r => if v.category = 1 ∧ w.category = 1 then a_nx (pc + 1) L (v :: w :: v :: r) h else none
    | _ => none)
  | .dup2 => (match st with
    | v :: w :: r => if v.category = 1 ∧ w.category = 1 then a_nx (pc + 1) L (v :: w :: v :: w :: r) h else none
    | _ => none)
  | .goto off => a_to off pc L st h
  | .ifCond c off => (match st with
    | .int x :: r => a_br (a_cmp c x 0) off pc L r h
    | _ => none)
  | .if_icmp c off => (match st with
    | .int y :: .int x :: r => a_br (a_cmp c x y) off pc L r h
    | _ => none)
  | .ifnull off => (match st with
    | .null :: r => a_br true off pc L r h
    | .ref i :: r => if i = 600 ∨ i = 601 then none else a_br false off pc L r h
    | _ => none)
  | .ifnonnull off => (match st with
    | .null :: r => a_br false off pc L r h
    | .ref i :: r => if i = 600 ∨ i = 601 then none else a_br true off pc L r h
    | _ => none)
  | .tableswitch dflt lo hi offs => (match st with
    | .int x :: r => (match a_tab dflt lo hi offs x with
      | some off => a_to off pc L r h
      | none => none)
    | _ => none)
  | .lookupswitch dflt ps => (match st with
    | .int x :: r => if (ps.toList.zip (ps.toList.drop 1)).all (fun (a, next) => a.1 < next.1) = true then a_to (Op.lookupswitch.offset ps.toList dflt x.toInt) pc L r h else none
    | _ => none)
  | .iaload => a_ar (fun i j => a_rdi h i a_int j) pc L st h
  | .baload => a_ar (fun i j => a_rdi h i a_bz j) pc L st h
  | .laload => a_ar (fun i j => a_rdl h i j) pc L st h
  | .faload => a_ar (fun i j => a_rdf h i j) pc L st h
  | .aaload => a_ar (fun i j => a_rdq h i j) pc L st h
  | .iastore => a_aw (fun i j v => match v with
    | .int x => a_wri h i a_int j x
    | _ => none) pc L st
  | .bastore => a_aw (fun i j v => match v with
    | .int x => a_wri h i a_bz j x
    | _ => none) pc L st
  | .lastore => a_aw (fun i j v => match v with
    | .long x => a_wrl h i j x
    | _ => none) pc L st
  | .fastore => a_aw (fun i j v => match v with
    | .float x => a_wrf h i j x
    | _ => none) pc L st
  | .aastore => a_aw (fun i j v => a_wrq h i j v) pc L st
  | .arraylength => (match st with
    | .ref i :: r => (match a_len h i with
      | some v => a_nx (pc + 1) L (v :: r) h
      | none => none)
    | _ => none)
  | .getfield idx => (match st, k_fld (mCls M) idx with
    | .ref i :: r, some (k, cs) => (match a_gf h i k cs with
      | some v => a_nx (pc + 3) L (v :: r) h
      | none => none)
    | _, _ => none)
  | .putfield idx => (match st, k_fld (mCls M) idx with
    | v :: .ref i :: r, some (k, cs) => (match k_fty (mCls M) idx with
      | some (ty, fin) => if narrow ty v = v ∧ fits ty v = true ∧ (fin = 0 ∨ (fin = 1 ∧ (mNm M).name = "<init>")) then (match a_pf h i k cs v with
          | some h' => a_nx (pc + 3) L r h'
          | none => none) else none
      | none => none)
    | _, _ => none)
  | .new idx => (match k_cls (mCls M) idx with
    | some c => (match k_dfs c with
      | some fs => a_nx (pc + 3) L (.ref h.1 :: st) (a_add h (.inr (c, fs)) fs.length)
      | none => none)
    | none => none)
  | .newarray ty => (match st with
    | .int n :: r => (match a_newa h (newarray.typeOf ty) n with
      | some (q, h') => a_nx (pc + 2) L (.ref q :: r) h'
      | none => none)
    | _ => none)
  | .anewarray idx => (match st, k_cls (mCls M) idx with
    | .int n :: r, some c => if c = 28 then (match a_newa h (.object "java/lang/Object") n with
      | some (q, h') => a_nx (pc + 3) L (.ref q :: r) h'
      | none => none) else none
    | _, _ => none)
  | .checkcast idx => (match st, k_cls (mCls M) idx with
    | .null :: r, some _ => a_nx (pc + 3) L (.null :: r) h
    | .ref i :: r, some c => (match a_kls h i with
      | some c' => (match k_cast c' c with
        | some true => a_nx (pc + 3) L (.ref i :: r) h
        | _ => none)
      | none => none)
    | .ref i :: r, none => if mCls M = 1 ∧ idx = 46 ∧ a_isArr h i = true then a_nx (pc + 3) L (.ref i :: r) h else none
    | _, _ => none)
  | .instanceof idx => (match st, k_cls (mCls M) idx with
    | .ref i :: r, some c => (match a_kls h i with
      | some c' => (match k_cast c' c with
        | some b => a_nx (pc + 3) L (.int (if b = true then 1 else 0) :: r) h
        | none => none)
      | none => none)
    | _, _ => none)
  | .invokestatic idx => a_inv call M idx [0, 22, 25, 26, 27] pc L st h
  | .invokevirtual idx => a_inv call M idx [1, 4, 21, 23, 24] pc L st h
  | .invokespecial idx => a_inv call M idx [2, 3, 20] pc L st h
  | .athrow => (match st with
    | .ref x :: _ => a_thr M pc L x h
    | _ => none)
  | .ireturn => (match st with
    | [.int x] => if a_retI M x = true then some (.inr (.inl (some (.int x)), h)) else none
    | _ => none)
  | .freturn => (match st with
    | [.float x] => if mRet M = some .float then some (.inr (.inl (some (.float x)), h)) else none
    | _ => none)
  | .areturn => (match st with
    | [v] => if a_isA v = true ∧ a_retA M = true then some (.inr (.inl (some v), h)) else none
    | _ => none)
  | .return_ => if st = [] ∧ mRet M = none then some (.inr (.inl none, h)) else none
  | _ => none
/-- the instructions' lengths; a switch's is any -/
def a_ln : Instr → Option Nat
  | .bipush _ | .ldc _ | .iload _ | .aload _ | .fload _ | .istore _ | .astore _ | .fstore _ | .newarray _ => some 2
  | .sipush _ | .ldc2_w _ | .getstatic _ | .iinc _ _ | .goto _ | .ifCond _ _ | .if_icmp _ _ | .ifnull _ | .ifnonnull _ | .getfield _ | .putfield _ | .new _ | .anewarray _ | .checkcast _ | .instanceof _ | .invokestatic _ | .invokevirtual _ | .invokespecial _ => some 3
  | .tableswitch _ _ _ _ => none
  | .lookupswitch _ _ => none
  | _ => some 1
def a_lnok (ins : Instr) (len : Nat) : Bool := match a_ln ins with
  | some k => decide (k = len)
  | none => true
def a_step (call : a_M → List Value → a_H → Option a_R) (M : a_M) (g : a_G) : a_O := match decode (mCode M) g.1 with
  | .ok (ins, len) => if a_lnok ins len = true then a_ins call M ins g.1 g.2.1 g.2.2.1 g.2.2.2 else none
  | .error _ => none
def a_exec (call : a_M → List Value → a_H → Option a_R) (M : a_M) : Nat → a_G → Option a_R
  | 0, _ => none
  | n + 1, g => match a_step call M g with
    | some (.inl g') => a_exec call M n g'
    | some (.inr r) => some r
    | none => none
theorem a_exec_mono {call : a_M → List Value → a_H → Option a_R} {M : a_M} {r : a_R} : ∀ {n : Nat} {g : a_G}, a_exec call M n g = some r → a_exec call M (n + 1) g = some r
  | 0, g, h => by cases h
  | n + 1, g, h => by
    unfold a_exec at h ⊢
    cases hs : a_step call M g with
    | none => rw [hs] at h; cases h
    | some o =>
      rw [hs] at h
      cases o with
      | inl g' => exact a_exec_mono (n := n) h
      | inr r' => exact h
theorem a_exec_le {call : a_M → List Value → a_H → Option a_R} {M : a_M} {r : a_R} {g : a_G} {n m : Nat} (h : n ≤ m) (hr : a_exec call M n g = some r) : a_exec call M m g = some r := by
  induction h with
  | refl => exact hr
  | step _ ih => exact a_exec_mono ih
noncomputable def a_lim {α : Type} (f : Nat → Option α) : Option α := @dite _ (∃ n, (f n).isSome = true) (Classical.propDecidable _) (fun h => f (Classical.choose h)) (fun _ => none)
theorem a_lim_some {α : Type} {f : Nat → Option α} {r : α} (h : a_lim f = some r) : ∃ n, f n = some r := by
  unfold a_lim at h
  split at h
  · next hx => exact ⟨_, h⟩
  · cases h
theorem a_lim_of {α : Type} {f : Nat → Option α} {r : α} (hm : ∀ n m s, n ≤ m → f n = some s → f m = some s) {n : Nat} (h : f n = some r) : a_lim f = some r := by
  unfold a_lim
  have hx : ∃ n, (f n).isSome = true := ⟨n, by rw [h]; rfl⟩
  rw [dif_pos hx]
  obtain ⟨s, hs⟩ := Option.isSome_iff_exists.mp (Classical.choose_spec hx)
  have h1 := hm _ _ _ (Nat.le_max_left (Classical.choose hx) n) hs
  have h2 := hm _ _ _ (Nat.le_max_right (Classical.choose hx) n) h
  rw [h1] at h2
  rw [hs, Option.some.inj h2]
/-- what the methods of which no code is walked answer: isBetween, Integer.valueOf, intValue, String.indexOf of two constants -/
def a_prim : Nat → List Value → a_H → Option a_R
  | 1, [.long v, .long a, .long b], h => some (.inl (some (.int (if a ≤ v ∧ v ≤ b then 1 else 0))), h)
  | 2, [.int x], h => if -128 ≤ x ∧ x ≤ 127 then some (.inl (some (.ref (x + 128).toNatClampNeg)), h) else none
  | 3, [.ref i], h => if i < 256 then some (.inl (some (.int (Int32.ofNat i - 128))), h) else none
  | 4, [.ref i, .int c], h => if i = 711 then some (.inl (some (.int (if c = 97 then 0 else if c = 104 then 1 else -1))), h) else if i = 712 then some (.inl (some (.int (if c = 98 then 0 else if c = 100 then 1 else if c = 117 then 2 else if c = 116 then 3 else -1))), h) else none
  | 7, [.int i, .int n], h => if 0 ≤ i ∧ i < n then some (.inl none, h) else none
  | _, _, _ => none
def a_ent (M : a_M) (args : List Value) : a_L := args.map some ++ List.replicate (mMax M - args.length) none
noncomputable def a_call : Nat → a_M → List Value → a_H → Option a_R
  | 0, _, _, _ => none
  | d + 1, M, args, h => if mPr M = 0 then (if args.length ≤ mMax M ∧ (args.all fun v => decide (v.category = 1)) = true then a_lim (fun n => a_exec (a_call d) M n (0, a_ent M args, [], h)) else none) else a_prim (mPr M) args h
noncomputable def a_run (d : Nat) (M : a_M) (pc : Nat) (L : a_L) (st : List Value) (h : a_H) : Option a_R := a_lim (fun n => a_exec (a_call d) M n (pc, L, st, h))
/-- THE STEP: a run is the run of the next state -/
theorem a_run_eq (d : Nat) (M : a_M) (pc : Nat) (L : a_L) (st : List Value) (h : a_H) : a_run d M pc L st h = match a_step (a_call d) M (pc, L, st, h) with
    | some (.inl g) => a_run d M g.1 g.2.1 g.2.2.1 g.2.2.2
    | some (.inr r) => some r
    | none => none := by
  have hm : ∀ g : a_G, ∀ n m s, n ≤ m → a_exec (a_call d) M n g = some s → a_exec (a_call d) M m g = some s := fun g n m s h1 h2 => a_exec_le h1 h2
  unfold a_run
  cases hs : a_step (a_call d) M (pc, L, st, h) with
  | none =>
    show a_lim _ = none
    unfold a_lim
    rw [dif_neg]
    rintro ⟨n, hn⟩
    cases n with
    | zero => cases hn
    | succ n =>
      have hn : (a_exec (a_call d) M (n + 1) (pc, L, st, h)).isSome = true := hn
      rw [a_exec, hs] at hn
      cases hn
  | some o =>
    cases o with
    | inr r => exact a_lim_of (hm _) (n := 1) (by unfold a_exec; rw [hs])
    | inl g =>
      show a_lim _ = a_lim _
      cases hl : a_lim (fun n => a_exec (a_call d) M n (g.1, g.2.1, g.2.2.1, g.2.2.2)) with
      | some r =>
        obtain ⟨n, hn⟩ := a_lim_some hl
        exact a_lim_of (hm _) (n := n + 1) (by unfold a_exec; rw [hs]; exact hn)
      | none =>
        cases hl2 : a_lim (fun n => a_exec (a_call d) M n (pc, L, st, h)) with
        | none => rfl
        | some r =>
          obtain ⟨n, hn⟩ := a_lim_some hl2
          cases n with
          | zero => cases hn
          | succ n =>
            have hn : a_exec (a_call d) M (n + 1) (pc, L, st, h) = some r := hn
            rw [a_exec, hs] at hn
            have := a_lim_of (hm _) (n := n) hn
            rw [show (g : a_G) = (g.1, g.2.1, g.2.2.1, g.2.2.2) from rfl] at this
            rw [hl] at this
            cases this
theorem a_call_run {d : Nat} {M : a_M} {args : List Value} {h : a_H} (hp : mPr M = 0) (hl : args.length ≤ mMax M) (hc : (args.all fun v => decide (v.category = 1)) = true) : a_call (d + 1) M args h = a_run d M 0 (a_ent M args) [] h := by
  unfold a_run
  rw [a_call, if_pos hp, if_pos ⟨hl, hc⟩]
theorem a_call_prim {d : Nat} {M : a_M} {args : List Value} {h : a_H} (hp : mPr M ≠ 0) : a_call (d + 1) M args h = a_prim (mPr M) args h := by
  rw [a_call, if_neg hp]
