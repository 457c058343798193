/-! THE MINI MACHINE: a memory of whole numbers (mini address, place), values with a tag (0 int, 1 long, 2 reference, 3 nothing, 4 some reference), code as lists -/
set_option maxRecDepth 100000
abbrev mV : Type := Nat × Int
abbrev mM : Type := Nat → Int → Int
abbrev mA : Type := Int → mM → Prop
abbrev mB : Type := Nat → mM → Prop
abbrev mC : Type := List (Nat × Instr)
def ms (σ : mM) (a : Nat) (i v : Int) : mM := fun b j => if b = a ∧ j = i then v else σ b j
def ok32 (x : Int) : Prop := -2147483648 ≤ x ∧ x ≤ 2147483647
def ok64 (x : Int) : Prop := -9223372036854775808 ≤ x ∧ x ≤ 9223372036854775807
def ok8 (x : Int) : Prop := -128 ≤ x ∧ x ≤ 127
def ok16 (x : Int) : Prop := 0 ≤ x ∧ x ≤ 65535
def w32 (x : Int) : Int := (x + 2147483648) % 4294967296 - 2147483648
def w64 (x : Int) : Int := (x + 9223372036854775808) % 18446744073709551616 - 9223372036854775808
def w8 (x : Int) : Int := (x + 128) % 256 - 128
def and32 (a b : Int) : Int := (Int32.ofInt a &&& Int32.ofInt b).toInt
def or32 (a b : Int) : Int := (Int32.ofInt a ||| Int32.ofInt b).toInt
def xor32 (a b : Int) : Int := (Int32.ofInt a ^^^ Int32.ofInt b).toInt
def shl32 (a b : Int) : Int := (Int32.ofInt a <<< (Int32.ofInt b &&& 31)).toInt
def shr32 (a b : Int) : Int := (Int32.ofInt a >>> (Int32.ofInt b &&& 31)).toInt
def ushr32 (a b : Int) : Int := ((Int32.ofInt a).toUInt32 >>> ((Int32.ofInt b).toUInt32 &&& Int32.toUInt32 31)).toInt32.toInt
def and64 (a b : Int) : Int := (Int64.ofInt a &&& Int64.ofInt b).toInt
def or64 (a b : Int) : Int := (Int64.ofInt a ||| Int64.ofInt b).toInt
def shl64 (a b : Int) : Int := (Int64.ofInt a <<< ((Int32.ofInt b).toInt64 &&& 63)).toInt
def shr64 (a b : Int) : Int := (Int64.ofInt a >>> ((Int32.ofInt b).toInt64 &&& 63)).toInt
def ushr64 (a b : Int) : Int := ((Int64.ofInt a).toUInt64 >>> ((Int32.ofInt b).toInt64.toUInt64 &&& Int64.toUInt64 63)).toInt64.toInt
/-- a boolean: a known one needs no word -/
def bo (v : Int) (P : Prop) : Prop := match v with
  | .ofNat 0 => P
  | .ofNat 1 => P
  | _ => (v = 0 ∨ v = 1) ∧ P
def cmpI (a b : Int) : Int := if a < b then -1 else if a = b then 0 else 1
def br6 (c : Jvm.ClassFile.Cond) (a b : Int) (J F : Prop) : Prop := match c with
  | .eq => (a = b → J) ∧ (¬ a = b → F)
  | .ne => (a = b → F) ∧ (¬ a = b → J)
  | .lt => (a < b → J) ∧ (b ≤ a → F)
  | .ge => (b ≤ a → J) ∧ (a < b → F)
  | .gt => (b < a → J) ∧ (a ≤ b → F)
  | .le => (a ≤ b → J) ∧ (b < a → F)
def sw6 (z : Int) (J : Int → Prop) : Int → List Int → Prop
  | _, [] => True
  | lo, t :: ts => (z = lo → J t) ∧ sw6 z J (lo + 1) ts
def lset1 (ls : List mV) (n : Nat) (v : mV) : List mV := match n with
  | 0 => ls.set 0 v
  | n + 1 => match ls.getD n (3, 0) with
    | (1, _) => (ls.set n (3, 0)).set (n + 1) v
    | _ => ls.set (n + 1) v
def lset2 (ls : List mV) (n : Nat) (v : mV) : List mV := (lset1 ls n v).set (n + 1) (3, 0)
