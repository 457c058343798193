/-! every instruction of the resolved code is what the class file's bytes say -/
set_option maxRecDepth 100000
set_option maxHeartbeats 4000000
def zdec (y pc : Nat) (r : Instr) (n : Nat) : Bool := match decode (zcoN y) pc with
  | .ok q => decide (q.1 = r) && Nat.beq q.2 n
  | .error _ => false
theorem zdec_ok {y pc : Nat} {r : Instr} {n : Nat} (h : zdec y pc r n = true) : decode (zcoN y) pc = .ok (r, n) := by
  unfold zdec at h
  split at h
  · rename_i q hq
    simp only [Bool.and_eq_true, decide_eq_true_eq] at h
    rw [hq, ← h.1, ← Nat.eq_of_beq_eq_true h.2]
  · cases h
def nxb (k : mC) (p : Nat) : Bool := match k with
  | [] => false
  | q :: _ => Nat.beq q.1 p
def zdn (y pc : Nat) (k : mC) (r : Instr) (n : Nat) : Bool := zdec y pc r n && nxb k (pc + n)
/-- a local's instruction: short form, long form -/
def zd4 (y pc : Nat) (k : mC) (n : Nat) (f : Fin 4 → Instr) (g : Instr) : Bool :=
  (match n with
    | 0 => zdn y pc k (f 0) 1
    | 1 => zdn y pc k (f 1) 1
    | 2 => zdn y pc k (f 2) 1
    | 3 => zdn y pc k (f 3) 1
    | _ => false) || zdn y pc k g 2
def mem3 (t : Nat × Nat × Nat) : List (Nat × Nat × Nat) → Bool
  | [] => false
  | q :: r => (Nat.beq q.1 t.1 && Nat.beq q.2.1 t.2.1 && Nat.beq q.2.2 t.2.2) || mem3 t r
def mem4 (t : Nat × Nat × Nat × Nat) : List (Nat × Nat × Nat × Nat) → Bool
  | [] => false
  | q :: r => (Nat.beq q.1 t.1 && Nat.beq q.2.1 t.2.1 && Nat.beq q.2.2.1 t.2.2.1 && Nat.beq q.2.2.2 t.2.2.2) || mem4 t r
theorem mem3_ok {t : Nat × Nat × Nat} : ∀ (l : List (Nat × Nat × Nat)), mem3 t l = true → t ∈ l
  | [], h => by cases h
  | q :: r, h => by
    simp only [mem3, Bool.or_eq_true, Bool.and_eq_true] at h
    rcases h with ⟨⟨h1, h2⟩, h3⟩ | h
    · have : q = t := Prod.ext (Nat.eq_of_beq_eq_true h1) (Prod.ext (Nat.eq_of_beq_eq_true h2) (Nat.eq_of_beq_eq_true h3))
      exact this ▸ List.mem_cons_self
    · exact List.mem_cons_of_mem _ (mem3_ok r h)
theorem mem4_ok {t : Nat × Nat × Nat × Nat} : ∀ (l : List (Nat × Nat × Nat × Nat)), mem4 t l = true → t ∈ l
  | [], h => by cases h
  | q :: r, h => by
    simp only [mem4, Bool.or_eq_true, Bool.and_eq_true] at h
    rcases h with ⟨⟨⟨h1, h2⟩, h3⟩, h4⟩ | h
    · have : q = t := Prod.ext (Nat.eq_of_beq_eq_true h1) (Prod.ext (Nat.eq_of_beq_eq_true h2) (Prod.ext (Nat.eq_of_beq_eq_true h3) (Nat.eq_of_beq_eq_true h4)))
      exact this ▸ List.mem_cons_self
    · exact List.mem_cons_of_mem _ (mem4_ok r h)
def memL (n : Nat) : List Nat → Bool
  | [] => false
  | q :: r => Nat.beq q n || memL n r
theorem memL_ok {n : Nat} : ∀ (l : List Nat), memL n l = true → n ∈ l
  | [], h => by cases h
  | q :: r, h => by
    simp only [memL, Bool.or_eq_true] at h
    rcases h with h | h
    · exact Nat.eq_of_beq_eq_true h ▸ List.mem_cons_self
    · exact List.mem_cons_of_mem _ (memL_ok r h)
def ztg (y : Nat) (t : Int) : Bool := match jmp y t with
  | [] => false
  | q :: _ => decide (Int.ofNat q.1 = t)
def zbr (y pc : Nat) (off t : Int) : Bool := decide ((pc : Int) + off = t) && ztg y t
def memI (t : Nat × Nat × Int) : List (Nat × Nat × Int) → Bool
  | [] => false
  | q :: r => (Nat.beq q.1 t.1 && Nat.beq q.2.1 t.2.1 && decide (q.2.2 = t.2.2)) || memI t r
theorem memI_ok {t : Nat × Nat × Int} : ∀ (l : List (Nat × Nat × Int)), memI t l = true → t ∈ l
  | [], h => by cases h
  | q :: r, h => by
    simp only [memI, Bool.or_eq_true, Bool.and_eq_true, decide_eq_true_eq] at h
    rcases h with ⟨⟨h1, h2⟩, h3⟩ | h
    · have : q = t := Prod.ext (Nat.eq_of_beq_eq_true h1) (Prod.ext (Nat.eq_of_beq_eq_true h2) h3)
      exact this ▸ List.mem_cons_self
    · exact List.mem_cons_of_mem _ (memI_ok r h)
def zcst (o j : Nat) (v : Int) : Bool := memI (o, j, v) zKI
def zcsl (o j : Nat) (v : Int) : Bool := memI (o, j, v) zKL
def zcss (o j : Nat) (v : Int) : Bool := memI (o, j, v) zKS
def zsig (q : Nat) (b : Bool) : Bool := match b with
  | true => memL q zSGi
  | false => memL q zSGs
def zokI (y pc : Nat) (i : Instr) (k : mC) : Bool := match i with
  | .aload n => zd4 y pc k n (fun j => .aload_n j) (.aload n)
  | .iload n => zd4 y pc k n (fun j => .iload_n j) (.iload n)
  | .lload n => zd4 y pc k n (fun j => .lload_n j) (.lload n)
  | .istore n => zd4 y pc k n (fun j => .istore_n j) (.istore n)
  | .astore n => zd4 y pc k n (fun j => .astore_n j) (.astore n)
  | .lstore n => zd4 y pc k n (fun j => .lstore_n j) (.lstore n)
  | .fstore n => zd4 y pc k n (fun j => .istore_n j) (.istore n)
  | .dstore n => zd4 y pc k n (fun j => .lstore_n j) (.lstore n)
  | .iconst v => decide (-2147483648 ≤ v ∧ v ≤ 2147483647) && (match decode (zcoN y) pc with
    | .ok (.iconst u, n) => decide (u = v) && Nat.beq n 1 && nxb k (pc + n)
    | .ok (.bipush u, n) => decide (u = v) && decide (-128 ≤ v ∧ v ≤ 127) && Nat.beq n 2 && nxb k (pc + n)
    | .ok (.sipush u, n) => decide (u = v) && decide (-32768 ≤ v ∧ v ≤ 32767) && Nat.beq n 3 && nxb k (pc + n)
    | .ok (.ldc j, n) => zcst (mcl y) j v && Nat.beq n 2 && nxb k (pc + n)
    | .ok (.ldc_w j, n) => zcst (mcl y) j v && Nat.beq n 3 && nxb k (pc + n)
    | _ => false)
  | .bipush v => (match decode (zcoN y) pc with
    | .ok (.lconst u, n) => decide ((u.val : Int) = v) && Nat.beq n 1 && nxb k (pc + n)
    | .ok (.ldc2_w j, n) => zcsl (mcl y) j v && Nat.beq n 3 && nxb k (pc + n)
    | _ => false)
  | .sipush v => (match decode (zcoN y) pc with
    | .ok (.ldc j, n) => zcss (mcl y) j v && Nat.beq n 2 && nxb k (pc + n)
    | .ok (.ldc_w j, n) => zcss (mcl y) j v && Nat.beq n 3 && nxb k (pc + n)
    | _ => false)
  | .getfield q => Nat.blt (q % 4) 4 && (match decode (zcoN y) pc with
    | .ok (.getfield j, n) => Nat.beq n 3 && nxb k (pc + n) && (mem4 (mcl y, j, q / 1024, q / 4 % 256) zFL || mem4 (mcl y, j, q / 1024, q / 4 % 256) zFN || (Nat.beq (mcl y) 18 && Nat.beq (q / 1024) 18 && (Nat.beq j 9 && Nat.beq (q / 4 % 256) 0 || Nat.beq j 15 && Nat.beq (q / 4 % 256) 1)))
    | _ => false)
  | .putfield q => (match decode (zcoN y) pc with
    | .ok (.putfield j, n) => Nat.beq n 3 && nxb k (pc + n) && (mem4 (mcl y, j, q / 1024, q / 4 % 256) zFL || mem4 (mcl y, j, q / 1024, q / 4 % 256) zFN)
    | _ => false)
  | .getstatic v => (match decode (zcoN y) pc with
    | .ok (.getstatic j, n) => Nat.beq n 3 && nxb k (pc + n) && (Nat.beq (mcl y) 18 && (Nat.beq v 1 && Nat.beq j 38 || Nat.beq v 100 && Nat.beq j 1053))
    | _ => false)
  | .iaload => zdn y pc k .iaload 1
  | .laload => zdn y pc k .laload 1
  | .baload => zdn y pc k .baload 1
  | .aaload => zdn y pc k .aaload 1
  | .iastore => zdn y pc k .iastore 1
  | .lastore => zdn y pc k .lastore 1
  | .bastore => zdn y pc k .bastore 1
  | .aastore => zdn y pc k .aastore 1
  | .arraylength => zdn y pc k .arraylength 1
  | .dup => zdn y pc k .dup 1
  | .dup2 => zdn y pc k .dup2 1
  | .pop => zdn y pc k .pop 1
  | .iadd => zdn y pc k .iadd 1
  | .isub => zdn y pc k .isub 1
  | .imul => zdn y pc k .imul 1
  | .idiv => zdn y pc k .idiv 1
  | .irem => zdn y pc k .irem 1
  | .ineg => zdn y pc k .ineg 1
  | .iand => zdn y pc k .iand 1
  | .ior => zdn y pc k .ior 1
  | .ixor => zdn y pc k .ixor 1
  | .ishl => zdn y pc k .ishl 1
  | .ishr => zdn y pc k .ishr 1
  | .iushr => zdn y pc k .iushr 1
  | .ladd => zdn y pc k .ladd 1
  | .lsub => zdn y pc k .lsub 1
  | .lmul => zdn y pc k .lmul 1
  | .ldiv => zdn y pc k .ldiv 1
  | .lrem => zdn y pc k .lrem 1
  | .lneg => zdn y pc k .lneg 1
  | .land => zdn y pc k .land 1
  | .lor => zdn y pc k .lor 1
  | .lshl => zdn y pc k .lshl 1
  | .lshr => zdn y pc k .lshr 1
  | .lushr => zdn y pc k .lushr 1
  | .lcmp => zdn y pc k .lcmp 1
  | .i2l => zdn y pc k .i2l 1
  | .l2i => zdn y pc k .l2i 1
  | .i2b => zdn y pc k .i2b 1
  | .i2c => zdn y pc k .i2c 1
  | .dadd => zdn y pc k .iadd 1
  | .dsub => zdn y pc k .isub 1
  | .dmul => zdn y pc k .imul 1
  | .i2s => zdn y pc k .i2b 1
  | .iinc n c => zdn y pc k (.iinc n c) 3
  | .ifCond c t => (match decode (zcoN y) pc with
    | .ok (.ifCond c2 off, n) => decide (c = c2) && Nat.beq n 3 && nxb k (pc + n) && zbr y pc off t
    | _ => false)
  | .if_icmp c t => (match decode (zcoN y) pc with
    | .ok (.if_icmp c2 off, n) => decide (c = c2) && Nat.beq n 3 && nxb k (pc + n) && zbr y pc off t
    | _ => false)
  | .goto t => (match decode (zcoN y) pc with
    | .ok (.goto off, n) => Nat.beq n 3 && zbr y pc off t
    | _ => false)
  | .tableswitch df lo hi offs => (match decode (zcoN y) pc with
    | .ok (.tableswitch d2 l2 h2 o2, n) => zbr y pc d2 df && decide (lo = l2) && decide (hi = h2) && decide (hi - lo + 1 = Int.ofNat offs.size) && decide (offs.toList = o2.toList.map (fun z => (pc : Int) + z)) && offs.toList.all (ztg y)
    | _ => false)
  | .invokevirtual q => (match decode (zcoN y) pc with
    | .ok (.invokevirtual j, n) => Nat.beq n 3 && nxb k (pc + n) && mem3 (mcl y, j, q / 64) zML && memL (q / 64) zIM && memL (q / 64) zSE && zsig q true
    | _ => false)
  | .invokespecial q => (match decode (zcoN y) pc with
    | .ok (.invokespecial j, n) => Nat.beq n 3 && nxb k (pc + n) && (mem3 (mcl y, j, q / 64) zML || mem3 (mcl y, j, q / 64) zMN) && (Nat.beq (q / 64) 1 || memL (q / 64) zIM && decide ((zyN (q / 64)).name = "<init>")) && zsig q true
    | _ => false)
  | .invokestatic q => (match decode (zcoN y) pc with
    | .ok (.invokestatic j, n) => Nat.beq n 3 && nxb k (pc + n) && (mem3 (mcl y, j, q / 64) zML || mem3 (mcl y, j, q / 64) zMN) && (Nat.beq (q / 64) 0 || memL (q / 64) zST) && zsig q false
    | _ => false)
  | .return_ => zdec y pc .return_ 1 && decide (zrtN y = none)
  | .ireturn => zdec y pc .ireturn 1 && decide (zrtN y = some .int)
  | .freturn => zdec y pc .ireturn 1 && decide (zrtN y = some .boolean)
  | .dreturn => zdec y pc .ireturn 1 && decide (zrtN y = some .byte)
  | .areturn => zdec y pc .ireturn 1 && decide (zrtN y = some .char)
  | .lreturn => zdec y pc .lreturn 1 && decide (zrtN y = some .long)
  | .newarray t => zdn y pc k (.newarray t) 2
  | .anewarray _ => (match decode (zcoN y) pc with
    | .ok (.anewarray j, n) => Nat.beq n 3 && nxb k (pc + n) && mem3 (mcl y, j, 100) zCL
    | _ => false)
  | .multianewarray _ _ => (match decode (zcoN y) pc with
    | .ok (.multianewarray j d, n) => Nat.beq n 4 && nxb k (pc + n) && Nat.beq d 2 && mem3 (mcl y, j, 101) zCL
    | _ => false)
  | .new c => (match decode (zcoN y) pc with
    | .ok (.new j, n) => Nat.beq n 3 && nxb k (pc + n) && mem3 (mcl y, j, c) zCL && (Nat.blt c 1000 || (zdec y (pc + 3) .dup 1 && zdec y (pc + 7) .athrow 1 && (match decode (zcoN y) (pc + 4) with
        | .ok (.invokespecial j2, n2) => Nat.beq n2 3 && mem3 (mcl y, j2, c) zXL
        | _ => false)))
    | _ => false)
  | .nop => true
  | .athrow => true
  | _ => false
def zokL (y : Nat) : mC → Bool
  | [] => true
  | q :: k => zokI y q.1 q.2 k && zokL y k
def zokN (y : Nat) : Nat → mC → Bool
  | 0, _ => true
  | _ + 1, [] => true
  | n + 1, q :: k => zokI y q.1 q.2 k && zokN y n k
theorem zokN_join {y : Nat} : ∀ (n : Nat) (k : mC), zokN y n k = true → zokL y (k.drop n) = true → zokL y k = true
  | 0, _, _, h => h
  | _ + 1, [], _, _ => rfl
  | n + 1, q :: k, h, g => by
    simp only [zokN, Bool.and_eq_true] at h
    simp only [zokL, Bool.and_eq_true]
    exact ⟨h.1, zokN_join n k h.2 g⟩
theorem zok_suf {y pc : Nat} {i : Instr} {k : mC} : ∀ (l : mC), zokL y l = true → (pc, i) :: k <:+ l → zokI y pc i k = true
  | [], _, h => by simp at h
  | q :: l, h, hs => by
    simp only [zokL, Bool.and_eq_true] at h
    rcases List.suffix_cons_iff.mp hs with e | hs
    · cases e; exact h.1
    · exact zok_suf l h.2 hs
