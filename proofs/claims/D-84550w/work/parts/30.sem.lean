/-! THE MINI MACHINE's instructions, as one rule each; E: what is reached by the rules -/
set_option maxRecDepth 100000
def dropW (t : Nat) : mC → mC
  | [] => []
  | q :: k => match Nat.beq q.1 t with
    | true => q :: k
    | false => dropW t k
def jmp (y : Nat) (t : Int) : mC := dropW t.toNat (cd y)
def shK (a : Int) : Nat := (shp a.toNat).1
def shL (σ : mM) (a : Int) : Int := match (shp a.toNat).2 with
  | 0 => σ a.toNat (-1)
  | n + 1 => Int.ofNat n
def rdk (kn : Nat → Nat → Option Int) (σ : mM) (a p : Nat) (F : Int → Prop) : Prop := match kn a p with
  | some v => F v
  | none => F (σ a (Int.ofNat p))
def fldT (q : Nat) : Nat := match q % 4 with
  | 3 => 0
  | t => t
def wrf (kn : Nat → Nat → Option Int) (σ : mM) (a p : Nat) (v : Int) (K : mM → Prop) : Prop := match kn a p with
  | some w => v = w ∧ K σ
  | none => K (ms σ a (Int.ofNat p) v)
def nz (b : Int) (P : Prop) : Prop := match b with
  | .ofNat (_ + 1) => P
  | _ => 0 < b ∧ P
/-- only where a test known at once says yes -/
def chk (b : Bool) (P : Prop) : Prop := match b with
  | true => P
  | false => False
def padTo : Nat → List mV → List mV
  | 0, _ => []
  | n + 1, [] => (3, 0) :: padTo n []
  | n + 1, v :: r => v :: padTo n r
/-- a list has a place n -/
def hasN (l : List mV) (n : Nat) (P : Prop) : Prop := match l.drop n with
  | [] => False
  | _ :: _ => P
/-- a list has no place n -/
def noN (l : List mV) (n : Nat) (P : Prop) : Prop := match l.drop n with
  | [] => P
  | _ :: _ => False
/-- a list has n places at least -/
def geN (l : List mV) (n : Nat) (P : Prop) : Prop := match n with
  | 0 => P
  | n + 1 => hasN l n P
/-- arguments laid as locals: a long takes two places -/
def argL : List mV → List mV
  | [] => []
  | (1, v) :: r => (1, v) :: (3, 0) :: argL r
  | q :: r => q :: argL r
def entL (n : Nat) (a : List mV) : List mV := padTo (mxL n) (argL a)
def retV (t : Nat) (r : Int) (st : List mV) : List mV := match t with
  | 0 => st
  | 1 => (0, r) :: st
  | _ => (1, r) :: st
def findH (pc k : Nat) : List (Nat × Nat × Nat × Nat) → Option Nat
  | [] => none
  | (a, b, h, c) :: r => match Nat.ble a pc && Nat.blt pc b && Nat.beq c k with
    | true => some h
    | false => findH pc k r
/-- some handler covers this place -/
def covB (pc : Nat) : List (Nat × Nat × Nat × Nat) → Bool
  | [] => false
  | (a, b, _, _) :: r => (Nat.ble a pc && Nat.blt pc b) || covB pc r
/-- the cells and places that are left: ghost 0 2, 0 3 -/
def spend (σ : mM) (c n : Int) (K : mM → Prop) : Prop := (c ≤ σ 0 2 ∧ n ≤ σ 0 3) ∧ K (ms (ms σ 0 2 (σ 0 2 - c)) 0 3 (σ 0 3 - n))
def zro (σ : mM) (a : Nat) : mM := fun b j => if b = a then 0 else σ b j
/-- the next cell is born: of this kind, of this length -/
def born (σ : mM) (kd : Nat) (ln : Int) (K : Int → mM → Prop) : Prop :=
  chk (Nat.beq (shK (σ 0 0)) kd) ((ln = shL σ (σ 0 0)) ∧ spend σ 1 ln (fun σ' => K (σ 0 0) (ms (zro σ' (σ 0 0).toNat) 0 0 (σ 0 0 + 1))))
/-- cells are born only where nothing is known beforehand -/
def nokn (kn : Nat → Nat → Option Int) (P : Prop) : Prop := match kn 156 0 with
  | none => P
  | some _ => False
def arrK (t : ArrayType) : Nat := match t with
  | .int => 1
  | .long => 2
  | .byte => 3
  | .boolean => 4
  | _ => 99
def cpyM (σ : mM) (a : Nat) (i : Int) (b : Nat) (j n : Int) : mM := fun c q => if c = b ∧ j ≤ q ∧ q < j + n then σ a (q - j + i) else σ c q
def zcall (C : Nat → Nat → List mV → mM → mA → mB → Prop) (d y n : Nat) (args : List mV) (σ : mM) (A : mA) (B : mB) : Prop :=
  noN (argL args) (mxL n) (match Nat.blt (htm n) (htm y) with
  | true => C d n args σ A B
  | false => match Nat.beq (htm n) (htm y) with
    | true => (match d with
      | 0 => False
      | d + 1 => C d n args σ A B)
    | false => False)
def inR (σ : mM) (a i : Int) : Prop := 0 ≤ i ∧ i < shL σ a
def sem (kn : Nat → Nat → Option Int) (C : Nat → Nat → List mV → mM → mA → mB → Prop) (d y pc : Nat) (i : Instr) (k : mC) (ls st : List mV) (σ : mM) (A : mA) (B : mB) (K : mC → List mV → List mV → mM → Prop) : Prop :=
  match i with
  | .aload n => (match ls.getD n (3, 0) with
    | (2, z) => K k ls ((2, z) :: st) σ
    | (4, z) => K k ls ((4, z) :: st) σ
    | _ => False)
  | .iload n => (match ls.getD n (3, 0) with
    | (0, z) => K k ls ((0, z) :: st) σ
    | _ => False)
  | .lload n => (match ls.getD n (3, 0) with
    | (1, z) => K k ls ((1, z) :: st) σ
    | _ => False)
  | .istore n => (match st with
    | (0, z) :: r => hasN ls n (K k (lset1 ls n (0, z)) r σ)
    | _ => False)
  | .fstore n => (match st with
    | (0, z) :: r => hasN ls n (∀ v : Int, v = z → K k (lset1 ls n (0, v)) r σ)
    | _ => False)
  | .dstore n => (match st with
    | (1, z) :: r => hasN ls (n + 1) (∀ v : Int, v = z → K k (lset2 ls n (1, v)) r σ)
    | _ => False)
  | .astore n => (match st with
    | (2, z) :: r => hasN ls n (K k (lset1 ls n (2, z)) r σ)
    | (4, z) :: r => hasN ls n (K k (lset1 ls n (4, z)) r σ)
    | _ => False)
  | .lstore n => (match st with
    | (1, z) :: r => hasN ls (n + 1) (K k (lset2 ls n (1, z)) r σ)
    | _ => False)
  | .iconst v => K k ls ((0, v) :: st) σ
  | .bipush v => K k ls ((1, v) :: st) σ
  | .sipush v => K k ls ((2, v) :: st) σ
  | .getstatic v => (match Nat.blt v 100 with
    | true => K k ls ((0, Int.ofNat v) :: st) σ
    | false => K k ls ((4, 0) :: st) σ)
  | .getfield q => (match st with
    | (2, a) :: r => chk (Nat.beq (shK a) (100 + q / 1024)) (rdk kn σ a.toNat (q / 4 % 256) (fun v => K k ls ((fldT q, v) :: r) σ))
    | _ => False)
  | .putfield q => (match st with
    | (t, v) :: (2, a) :: r => chk (Nat.beq (shK a) (100 + q / 1024) && Nat.beq t (fldT q) && Nat.blt 155 a.toNat) (match q % 4 with
      | 3 => bo v (wrf kn σ a.toNat (q / 4 % 256) v (fun σ' => K k ls r σ'))
      | _ => wrf kn σ a.toNat (q / 4 % 256) v (fun σ' => K k ls r σ'))
    | _ => False)
  | .iaload => (match st with
    | (0, i) :: (2, a) :: r => chk (Nat.beq (shK a) 1) (inR σ a i ∧ K k ls ((0, σ a.toNat i) :: r) σ)
    | _ => False)
  | .laload => (match st with
    | (0, i) :: (2, a) :: r => chk (Nat.beq (shK a) 2) (inR σ a i ∧ K k ls ((1, σ a.toNat i) :: r) σ)
    | _ => False)
  | .baload => (match st with
    | (0, i) :: (2, a) :: r => chk (Nat.beq (shK a) 3 || Nat.beq (shK a) 4) (inR σ a i ∧ K k ls ((0, σ a.toNat i) :: r) σ)
    | _ => False)
  | .aaload => (match st with
    | (0, i) :: (2, a) :: r => chk (Nat.beq (shK a) 5 || Nat.beq (shK a) 6) (inR σ a i ∧ K k ls ((2, σ a.toNat i) :: r) σ)
    | _ => False)
  | .iastore => (match st with
    | (0, v) :: (0, i) :: (2, a) :: r => chk (Nat.beq (shK a) 1 && Nat.blt 155 a.toNat) (inR σ a i ∧ K k ls r (ms σ a.toNat i v))
    | _ => False)
  | .lastore => (match st with
    | (1, v) :: (0, i) :: (2, a) :: r => chk (Nat.beq (shK a) 2 && Nat.blt 155 a.toNat) (inR σ a i ∧ K k ls r (ms σ a.toNat i v))
    | _ => False)
  | .bastore => (match st with
    | (0, v) :: (0, i) :: (2, a) :: r => chk (Nat.blt 155 a.toNat) (match shK a with
      | 3 => (ok8 v ∧ inR σ a i) ∧ K k ls r (ms σ a.toNat i v)
      | 4 => bo v (inR σ a i ∧ K k ls r (ms σ a.toNat i v))
      | _ => False)
    | _ => False)
  | .aastore => (match st with
    | (2, v) :: (0, i) :: (2, a) :: r => chk (Nat.beq (shK a) 5 && Nat.beq (shK v) 118 && Nat.blt 155 a.toNat) (inR σ a i ∧ K k ls r (ms σ a.toNat i v))
    | _ => False)
  | .arraylength => (match st with
    | (2, a) :: r => chk (Nat.blt 0 (shK a) && Nat.blt (shK a) 7) (K k ls ((0, shL σ a) :: r) σ)
    | _ => False)
  | .newarray t => (match st with
    | (0, n) :: r => nokn kn (born σ (arrK t) n (fun a σ' => K k ls ((2, a) :: r) σ'))
    | _ => False)
  | .anewarray _ => (match st with
    | (0, n) :: r => nokn kn (born σ 5 n (fun a σ' => K k ls ((2, a) :: r) σ'))
    | _ => False)
  | .multianewarray _ _ => (match st with
    | (0, m) :: (0, n) :: r => nokn kn ((n = 4 ∧ m = 588) ∧ born σ 6 4 (fun a s0 => born s0 1 588 (fun b0 s1 => born s1 1 588 (fun b1 s2 => born s2 1 588 (fun b2 s3 => born s3 1 588 (fun b3 s4 =>
        K k ls ((2, a) :: r) (ms (ms (ms (ms s4 a.toNat 0 b0) a.toNat 1 b1) a.toNat 2 b2) a.toNat 3 b3)))))))
    | _ => False)
  | .new c => (match Nat.blt c 1000 with
    | true => nokn kn (born σ (100 + c) (shL σ (σ 0 0)) (fun a σ' => K k ls ((2, a) :: st) σ'))
    | false => noN st 13 (spend σ 1 6 (fun σ' => match covB (pc + 7) (hnd y) with
      | false => B (c - 1000) σ'
      | true => False)))
  | .dup => (match st with
    | (t, v) :: r => chk (!Nat.beq t 1) (K k ls ((t, v) :: (t, v) :: r) σ)
    | _ => False)
  | .dup2 => (match st with
    | (1, v) :: r => K k ls ((1, v) :: (1, v) :: r) σ
    | (t, v) :: (u, w) :: r => chk (!Nat.beq t 1 && !Nat.beq u 1) (K k ls ((t, v) :: (u, w) :: (t, v) :: (u, w) :: r) σ)
    | _ => False)
  | .pop => (match st with
    | (t, _) :: r => chk (!Nat.beq t 1) (K k ls r σ)
    | _ => False)
  | .iadd => (match st with
    | (0, b) :: (0, a) :: r => ok32 (a + b) ∧ K k ls ((0, a + b) :: r) σ
    | _ => False)
  | .isub => (match st with
    | (0, b) :: (0, a) :: r => ok32 (a - b) ∧ K k ls ((0, a - b) :: r) σ
    | _ => False)
  | .imul => (match st with
    | (0, b) :: (0, a) :: r => ok32 (a * b) ∧ K k ls ((0, a * b) :: r) σ
    | _ => False)
  | .dadd => (match st with
    | (0, b) :: (0, a) :: r => K k ls ((0, w32 (a + b)) :: r) σ
    | _ => False)
  | .dsub => (match st with
    | (0, b) :: (0, a) :: r => K k ls ((0, w32 (a - b)) :: r) σ
    | _ => False)
  | .dmul => (match st with
    | (0, b) :: (0, a) :: r => K k ls ((0, w32 (a * b)) :: r) σ
    | _ => False)
  | .idiv => (match st with
    | (0, b) :: (0, a) :: r => nz b (K k ls ((0, a.tdiv b) :: r) σ)
    | _ => False)
  | .irem => (match st with
    | (0, b) :: (0, a) :: r => nz b (K k ls ((0, a.tmod b) :: r) σ)
    | _ => False)
  | .ineg => (match st with
    | (0, a) :: r => ok32 (-a) ∧ K k ls ((0, -a) :: r) σ
    | _ => False)
  | .iand => (match st with
    | (0, b) :: (0, a) :: r => K k ls ((0, and32 a b) :: r) σ
    | _ => False)
  | .ior => (match st with
    | (0, b) :: (0, a) :: r => K k ls ((0, or32 a b) :: r) σ
    | _ => False)
  | .ixor => (match st with
    | (0, b) :: (0, a) :: r => K k ls ((0, xor32 a b) :: r) σ
    | _ => False)
  | .ishl => (match st with
    | (0, b) :: (0, a) :: r => K k ls ((0, shl32 a b) :: r) σ
    | _ => False)
  | .ishr => (match st with
    | (0, b) :: (0, a) :: r => K k ls ((0, shr32 a b) :: r) σ
    | _ => False)
  | .iushr => (match st with
    | (0, b) :: (0, a) :: r => K k ls ((0, ushr32 a b) :: r) σ
    | _ => False)
  | .ladd => (match st with
    | (1, b) :: (1, a) :: r => ok64 (a + b) ∧ K k ls ((1, a + b) :: r) σ
    | _ => False)
  | .lsub => (match st with
    | (1, b) :: (1, a) :: r => ok64 (a - b) ∧ K k ls ((1, a - b) :: r) σ
    | _ => False)
  | .lmul => (match st with
    | (1, b) :: (1, a) :: r => ok64 (a * b) ∧ K k ls ((1, a * b) :: r) σ
    | _ => False)
  | .ldiv => (match st with
    | (1, b) :: (1, a) :: r => nz b (K k ls ((1, a.tdiv b) :: r) σ)
    | _ => False)
  | .lrem => (match st with
    | (1, b) :: (1, a) :: r => nz b (K k ls ((1, a.tmod b) :: r) σ)
    | _ => False)
  | .lneg => (match st with
    | (1, a) :: r => ok64 (-a) ∧ K k ls ((1, -a) :: r) σ
    | _ => False)
  | .land => (match st with
    | (1, b) :: (1, a) :: r => K k ls ((1, and64 a b) :: r) σ
    | _ => False)
  | .lor => (match st with
    | (1, b) :: (1, a) :: r => K k ls ((1, or64 a b) :: r) σ
    | _ => False)
  | .lshl => (match st with
    | (0, b) :: (1, a) :: r => K k ls ((1, shl64 a b) :: r) σ
    | _ => False)
  | .lshr => (match st with
    | (0, b) :: (1, a) :: r => K k ls ((1, shr64 a b) :: r) σ
    | _ => False)
  | .lushr => (match st with
    | (0, b) :: (1, a) :: r => K k ls ((1, ushr64 a b) :: r) σ
    | _ => False)
  | .lcmp => (match st with
    | (1, b) :: (1, a) :: r => (match k with
      | (_, .ifCond c t) :: k' => br6 c a b (K (jmp y t) ls r σ) (K k' ls r σ)
      | _ => K k ls ((0, cmpI a b) :: r) σ)
    | _ => False)
  | .i2l => (match st with
    | (0, a) :: r => K k ls ((1, a) :: r) σ
    | _ => False)
  | .l2i => (match st with
    | (1, a) :: r => K k ls ((0, w32 a) :: r) σ
    | _ => False)
  | .i2b => (match st with
    | (0, v) :: r => (match k with
      | (_, .bastore) :: k' => (match r with
        | (0, i) :: (2, a) :: r' => chk (Nat.beq (shK a) 3 && Nat.blt 155 a.toNat) ((ok8 v ∧ inR σ a i) ∧ K k' ls r' (ms σ a.toNat i v))
        | _ => False)
      | _ => K k ls ((0, w8 v) :: r) σ)
    | _ => False)
  | .i2s => (match st with
    | (0, v) :: (0, i) :: (2, a) :: r => (match k with
      | (_, .bastore) :: k' => chk (Nat.beq (shK a) 3 && Nat.blt 155 a.toNat) (inR σ a i ∧ K k' ls r (ms σ a.toNat i (w8 v)))
      | _ => False)
    | _ => False)
  | .i2c => (match st with
    | (0, v) :: r => ok16 v ∧ K k ls ((0, v) :: r) σ
    | _ => False)
  | .iinc n c => (match ls.getD n (3, 0) with
    | (0, z) => ok32 (z + c) ∧ K k (ls.set n (0, z + c)) st σ
    | _ => False)
  | .ifCond c t => (match st with
    | (0, z) :: r => br6 c z 0 (K (jmp y t) ls r σ) (K k ls r σ)
    | _ => False)
  | .if_icmp c t => (match st with
    | (0, b) :: (0, a) :: r => br6 c a b (K (jmp y t) ls r σ) (K k ls r σ)
    | _ => False)
  | .goto t => K (jmp y t) ls st σ
  | .tableswitch df lo hi offs => (match st with
    | (0, z) :: r => (z < lo ∨ hi < z → K (jmp y df) ls r σ) ∧ sw6 z (fun t => K (jmp y t) ls r σ) lo offs.toList
    | _ => False)
  | .invokevirtual q => (match (st.take (q / 4 % 16)).reverse with
    | (2, a) :: as => chk (Nat.beq (shK a) (100 + mcl (q / 64))) (noN st (q / 4 % 16 + 12) (geN st (q / 4 % 16) (zcall C d y (q / 64) ((2, a) :: as) σ (fun r σ' => K k ls (retV (q % 4) r (st.drop (q / 4 % 16))) σ') (fun kd σ' => match covB pc (hnd y) with
        | false => B kd σ'
        | true => match findH pc kd (hnd y) with
          | none => False
          | some h => K (jmp y h) ls [(4, 0)] σ'))))
    | _ => False)
  | .invokespecial q => (match (st.take (q / 4 % 16)).reverse with
    | (2, a) :: as => (match q / 64 with
      | 1 => chk (Nat.blt 0 (shK a) && Nat.beq (q / 4 % 16) 1) (noN st 13 (K k ls (st.drop (q / 4 % 16)) σ))
      | n => chk (Nat.beq (shK a) (100 + mcl n)) (noN st (q / 4 % 16 + 12) (geN st (q / 4 % 16) (zcall C d y n ((2, a) :: as) σ (fun r σ' => K k ls (retV (q % 4) r (st.drop (q / 4 % 16))) σ') (fun kd σ' => match covB pc (hnd y) with
        | false => B kd σ'
        | true => match findH pc kd (hnd y) with
          | none => False
          | some h => K (jmp y h) ls [(4, 0)] σ')))))
    | _ => False)
  | .invokestatic q => (match q / 64 with
    | 0 => (match st with
      | (0, n) :: (0, j) :: (2, b) :: (0, i) :: (2, a) :: r => chk (Nat.beq (shK a) (shK b) && (Nat.beq (shK a) 1 || Nat.beq (shK a) 3) && Nat.blt 155 b.toNat && Nat.blt 155 a.toNat) (noN r 8
          ((0 ≤ n ∧ 0 ≤ i ∧ i + n ≤ shL σ a ∧ 0 ≤ j ∧ j + n ≤ shL σ b) ∧ K k ls r (cpyM σ a.toNat i b.toNat j n)))
      | _ => False)
    | n => (noN st (q / 4 % 16 + 12) (geN st (q / 4 % 16) (zcall C d y n (st.take (q / 4 % 16)).reverse σ (fun r σ' => K k ls (retV (q % 4) r (st.drop (q / 4 % 16))) σ') (fun kd σ' => match covB pc (hnd y) with
        | false => B kd σ'
        | true => match findH pc kd (hnd y) with
          | none => False
          | some h => K (jmp y h) ls [(4, 0)] σ')))))
  | .return_ => A 0 σ
  | .ireturn => (match st with
    | (0, v) :: _ => A v σ
    | _ => False)
  | .freturn => (match st with
    | (0, v) :: _ => bo v (A v σ)
    | _ => False)
  | .dreturn => (match st with
    | (0, v) :: _ => ok8 v ∧ A v σ
    | _ => False)
  | .areturn => (match st with
    | (0, v) :: _ => ok16 v ∧ A v σ
    | _ => False)
  | .lreturn => (match st with
    | (1, v) :: _ => A v σ
    | _ => False)
  | _ => False
