/-! the memory is of its types: what E may lean on at every step -/
set_option maxRecDepth 100000
def zvd (σ : mM) (z : Int) : Prop := 0 < z ∧ z < σ 0 0
def zfk (t : FieldType) : Nat := match t with
  | .long => 1
  | .boolean => 3
  | .object _ => 2
  | .array _ => 2
  | _ => 0
/-- a number is of its kind: 0 int, 1 long, 2 reference, 3 boolean, 4 byte -/
def zok1 (σ : mM) (k : Nat) (z : Int) : Prop := match k with
  | 0 => ok32 z
  | 1 => ok64 z
  | 2 => z = 0 ∨ zvd σ z
  | 3 => z = 0 ∨ z = 1
  | _ => ok8 z
def zak (k : Nat) : Nat := match k with
  | 1 => 0
  | 2 => 1
  | 3 => 4
  | 4 => 3
  | _ => 2
def zokc (σ : mM) (a : Nat) : Prop := match Nat.blt (shp a).1 100 with
  | true => ∀ j : Nat, j < (shp a).2 - 1 → zok1 σ (zak (shp a).1) (σ a (Int.ofNat j))
  | false => ∀ j : Nat, j < (shp a).2 - 1 → zok1 σ (zfk (zTy ((shp a).1 - 100) j)) (σ a (Int.ofNat j))
/-- every cell that is born holds what its type can hold -/
def WT (kn : Nat → Nat → Option Int) (σ : mM) : Prop := (kn 156 0 ≠ none → σ 0 0 = 372) ∧ ∀ a : Nat, 156 ≤ a → (a : Int) < σ 0 0 → zokc σ a
