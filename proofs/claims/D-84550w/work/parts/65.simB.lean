/-! THE SIMULATION: the judgement, and the instructions that leave the heap alone -/
set_option maxRecDepth 100000
set_option maxHeartbeats 4000000
def ztys (tc : Nat → ClassId) : List (ClassId × FieldType) := [(tc 1, .int), (tc 2, .long), (tc 3, .byte), (tc 4, .boolean), (tc 5, .object "java/lang/String"), (tc 6, .array .int)]
def znest : List Cond := zFN.map (fun t => Cond.fieldLinkNest (zR t.1) t.2.1 (zR t.2.2.1) ((zcls.getD t.2.2.1 (RX1, TX1, 17)).2.1 t.2.2.2).2.1 ((zcls.getD t.2.2.1 (RX1, TX1, 17)).2.1 t.2.2.2).2.2.1 RX1)
def znesm : List Cond := zMN.map (fun t => Cond.methodLinkNest (zR t.1) t.2.1 (zyN t.2.2) RX1)
/-- what lies in the heap from before: the script, the texts, statics -/
def zExt (A : Nat → Prop) (ex : Nat → Nat) (σ0 : mM) (s : State) (H : Heap) : Prop :=
  (∃ (L : Nat) (xs : Nat → Int32), va_X (ex 1) L xs s H ∧ ex 1 < H.size ∧ ¬ A (ex 1) ∧ L ≤ 384 ∧ σ0 1 (-1) = L ∧ ∀ j : Nat, j < L → σ0 1 (Int.ofNat j) = (xs j).toInt) ∧
  (∀ i : Nat, i < 77 → va_O "java/lang/String" (ex (2 + 2 * i)) A s H ∧ va_OF "java/lang/String" "coder" "B" (.int 0) (ex (2 + 2 * i)) A s H ∧ va_OF "java/lang/String" "value" "[B" (.ref (ex (3 + 2 * i))) (ex (2 + 2 * i)) A s H ∧
    va_T .byte (ex (3 + 2 * i)) ((shp (3 + 2 * i)).2 - 1) (fun j => .int (zi32 σ0 (3 + 2 * i) j)) A s H ∧ σ0 (2 + 2 * i) 0 = ((3 + 2 * i : Nat) : Int) ∧ σ0 (2 + 2 * i) 1 = 0 ∧ ∀ j : Nat, j < (shp (3 + 2 * i)).2 - 1 → ok8 (σ0 (3 + 2 * i) (Int.ofNat j))) ∧
  va_Z "java/lang/String" "COMPACT_STRINGS" "Z" (.int 1) A s H ∧ va_Zq "jdk/internal/util/Preconditions" "SIOOBE_FORMATTER" "Ljava/util/function/BiFunction;" A s H
def zhrL (y : Nat) : List (Nat × List (Nat × Nat × Nat × Nat)) → List (Nat × Nat × Nat × Nat)
  | [] => []
  | q :: r => match Nat.beq q.1 y with
    | true => q.2
    | false => zhrL y r
/-- the handlers of a method, as its class file has them -/
def zhr (y : Nat) : List (Nat × Nat × Nat × Nat) := zhrL y zCW
/-- words that are kept by hand -/
def zThw : List Cond := [.castable (zCN 1001) (zCN 1001), .castable (zCN 1002) (zCN 1002), .castable (zCN 1003) (zCN 1003), .castable (zCN 1004) (zCN 1004),
  .declares ⟨"java/lang/RuntimeException", "<init>", "()V"⟩, .declares ⟨"java/lang/Exception", "<init>", "()V"⟩, .declares ⟨"java/lang/Throwable", "<init>", "()V"⟩,
  .arrayOver (.object "java/lang/String"), .arrayOver (.array .int)]
def zNo (s : State) : Prop := ∀ i j : Nat, i ∈ [1, 2, 3, 4] → j ∈ [1, 2, 3, 4] → i ≠ j → ∃ ci cj, s.vm.findClass (zCN (1000 + i)) = some ci ∧ s.vm.findClass (zCN (1000 + j)) = some cj ∧ s.vm.assignable ci cj = false
def zXt (A : Nat → Prop) (ex : Nat → Nat) (e : Env) (s : State) (c : Code) (y : Nat) : Prop :=
  c.exceptionTable.toList.map (fun x => (x.startPc, x.endPc, x.handlerPc, x.catchType)) = zhr y ∧ (∀ t ∈ zKS, ∃ tx, vk_R (zR t.1) t.2.1 tx (ex t.2.2.toNat) s) ∧
  (∀ q, s.heap.size ≤ q → A q) ∧ e.platform.stackTraces = false ∧ zNo s ∧ (∀ w ∈ zThw, ∀ a : Array Value, w.before a s = true) ∧
  va_Zq "java/lang/Throwable" "UNASSIGNED_STACK" "[Ljava/lang/StackTraceElement;" A s s.heap ∧ va_Zq "java/lang/Throwable" "SUPPRESSED_SENTINEL" "Ljava/util/List;" A s s.heap ∧
  (∀ a : Array Value, (Cond.laysStatic "java/lang/Throwable" "UNASSIGNED_STACK" "[Ljava/lang/StackTraceElement;").before a s = true) ∧ (∀ a : Array Value, (Cond.laysStatic "java/lang/Throwable" "SUPPRESSED_SENTINEL" "Ljava/util/List;").before a s = true)
def zCt (l : Launch) (D : va_G) (tc : Nat → ClassId) (A : Nat → Prop) (ex : Nat → Nat) (σ0 : mM) (p : Program) (e : Env) (s : State) (m : MethodId) (args : Array Value) (meth : Method) (c : Code) (y : Nat) : Prop :=
  p.tables.exec = Jvm.exec ∧ c.code = zcoN y ∧ c.maxLocals = mxL y ∧ meth.sig.returnType = zrtN y ∧ meth.locks = false ∧ s.vm.findClass (zR (mcl y)) = some m.cls ∧ (∀ w ∈ lw_all, w.before args s = true) ∧
  va_K D zcls (ztys tc) s ∧ zExt A ex σ0 s s.heap ∧ meth.name = (zyN y).name ∧ (∀ w ∈ znest, va_Nw w s) ∧ (∀ w ∈ znesm, va_Nw w s) ∧ zXt A ex e s c y
def zRoom (d y : Nat) (R : Room) : Prop := d + htm y ≤ R.frames ∧ 120 * (d + htm y) ≤ R.locals
/-- the memory lies in the heap -/
def zHp (D : va_G) (tc : Nat → ClassId) (A : Nat → Prop) (ex : Nat → Nat) (σ0 : mM) (kn : Nat → Nat → Option Int) (ad : Nat → Nat) (σ : mM) (H : Heap) : Prop :=
  (156 ≤ σ 0 0 ∧ σ 0 0 ≤ 372 ∧ 0 ≤ σ 0 2 ∧ 0 ≤ σ 0 3 ∧ (kn 156 0 ≠ none → σ 0 0 = 372)) ∧ (∀ a : Nat, a < 156 → ad a = ex a) ∧ va_P D zcls (zW tc ad σ ((σ 0 0).toNat - 156)) H ∧ va_D A (zW tc ad σ ((σ 0 0).toNat - 156)) ∧
  (∀ a : Nat, 156 ≤ a → (a : Int) < σ 0 0 → zokc σ a) ∧ (∀ (a : Nat) (j : Int), 0 < a → a < 156 → σ a j = σ0 a j) ∧ (∀ (a p : Nat) (v : Int), kn a p = some v → σ a (Int.ofNat p) = v)
def zRl (D : va_G) (tc : Nat → ClassId) (A : Nat → Prop) (ex : Nat → Nat) (σ0 : mM) (kn : Nat → Nat → Option Int) (s : State) (ad : Nat → Nat) (σ : mM) (H : Heap) (locs : List Loc) (cells slots : Nat) (C0 S0 : Int) : Prop :=
  zHp D tc A ex σ0 kn ad σ H ∧ va_S A s.heap H locs ∧ (cells : Int) + σ 0 2 = C0 ∧ (slots : Int) + σ 0 3 = S0
def zEnd (A : Nat → Prop) (s : State) (below : List Frame) (C0 S0 : Int) (σ' : mM) (o : Outcome) (t : State) : Prop :=
  t.status = .running ∧ Ended t below o ∧ s.WarmedH t.vm ∧ va_F A s t ∧ ∃ (L : List Loc) (kk nn : Nat), s.sameButNew ({ t with vm := s.vm } : State) L kk nn ∧ (∀ q ∈ L, A q.base) ∧ (kk : Int) + σ' 0 2 = C0 ∧ (nn : Int) + σ' 0 3 = S0
def zOut (rt : Option FieldType) (v : Int) (o : Outcome) : Prop := match rt with
  | none => o = .returned none
  | some .long => ∃ x : Int64, o = .returned (some (.long x)) ∧ x.toInt = v
  | _ => ∃ x : Int32, o = .returned (some (.int x)) ∧ x.toInt = v
def zLat (ad : Nat → Nat) (σ : mM) (ad' : Nat → Nat) (σ' : mM) : Prop := σ 0 0 ≤ σ' 0 0 ∧ ∀ a : Nat, (a : Int) < σ 0 0 → ad' a = ad a
theorem zLat.rf {ad : Nat → Nat} {σ : mM} : zLat ad σ ad σ := ⟨Int.le_refl _, fun _ _ => rfl⟩
theorem zLat.tr {ad ad1 ad2 : Nat → Nat} {σ σ1 σ2 : mM} (h : zLat ad σ ad1 σ1) (g : zLat ad1 σ1 ad2 σ2) : zLat ad σ ad2 σ2 :=
  ⟨Int.le_trans h.1 g.1, fun a ha => (g.2 a (Int.lt_of_lt_of_le ha h.1)).trans (h.2 a ha)⟩
def zThr (s : State) (kd : Nat) (xa : Addr) (t : State) : Prop := ∃ (cell : Cell) (cX : ClassId), t.heap[xa]? = some cell ∧ cell.vm.isStatics = false ∧ s.vm.findClass (zCN (1000 + kd)) = some cX ∧ cell.cls = cX
/-- what is reached: of the mini machine, in the real one -/
def zReal (l : Launch) (D : va_G) (tc : Nat → ClassId) (A : Nat → Prop) (ex : Nat → Nat) (σ0 : mM) (kn : Nat → Nat → Option Int) : zP := fun d y k ls st σ Aq Bq =>
  ∀ (p : Program) (e : Env) (R : Room) (s : State) (m : MethodId) (args : Array Value) (below : List Frame) (meth : Method) (c : Code), zCt l D tc A ex σ0 p e s m args meth c y → zRoom d y R →
  ∀ (ad : Nat → Nat) (H : Heap) (locs : List Loc) (cells slots : Nat) (lsR : Array Slot) (stR : List Value) (C0 S0 : Int), C0 ≤ R.cells → S0 ≤ R.slots → zRl D tc A ex σ0 kn s ad σ H locs cells slots C0 S0 → zloc ad σ ls lsR → ls.length = mxL y → zst ad σ st stR →
  ∀ Qw : State → Prop, (∀ (σ' : mM) (ad' : Nat → Nat) (t : State) (o : Outcome) (v : Int), Aq v σ' → zOut (zrtN y) v o → zEnd A s below C0 S0 σ' o t → zLat ad σ ad' σ' → zHp D tc A ex σ0 kn ad' σ' t.heap → Qw t) →
    (∀ (σ' : mM) (ad' : Nat → Nat) (t : State) (kd : Nat) (xa : Addr), Bq kd σ' → zThr s kd xa t → zEnd A s below C0 S0 σ' (.threw xa) t → zLat ad σ ad' σ' → zHp D tc A ex σ0 kn ad' σ' t.heap → Qw t) →
  ∀ (pc : Nat) (i : Instr) (k' : mC), k = (pc, i) :: k' → k <:+ cd y → W p l e R s m args below meth c H locs cells slots Qw (F0 m pc lsR stR)
section ZB
variable {l : Launch} {D : va_G} {tc : Nat → ClassId} {A : Nat → Prop} {ex : Nat → Nat} {σ0 : mM} {kn : Nat → Nat → Option Int}
variable {d y : Nat} {k : mC} {ls st : List mV} {σ : mM} {Aq : mA} {Bq : mB}
variable {p : Program} {e : Env} {R : Room} {s : State} {m : MethodId} {args : Array Value} {below : List Frame} {meth : Method} {c : Code}
variable {ad : Nat → Nat} {H : Heap} {locs : List Loc} {cells slots : Nat} {lsR : Array Slot} {stR : List Value} {C0 S0 : Int} {Qw : State → Prop} {pc : Nat}
/-- going on behind an instruction -/
def zGo (l : Launch) (D : va_G) (tc : Nat → ClassId) (A : Nat → Prop) (ex : Nat → Nat) (σ0 : mM) (kn : Nat → Nat → Option Int) (y : Nat) (k : mC) (p : Program) (e : Env) (R : Room) (s : State) (m : MethodId) (args : Array Value) (below : List Frame) (meth : Method) (c : Code) (ad : Nat → Nat) (σ : mM) (C0 S0 : Int) (Qw : State → Prop) (d : Nat) (Aq : mA) (Bq : mB) : Prop :=
  ∀ (ls st : List mV) (σ1 : mM) (ad1 : Nat → Nat) (H : Heap) (locs : List Loc) (cells slots : Nat) (lsR : Array Slot) (stR : List Value), zReal l D tc A ex σ0 kn d y k ls st σ1 Aq Bq → zLat ad σ ad1 σ1 → zRl D tc A ex σ0 kn s ad1 σ1 H locs cells slots C0 S0 → zloc ad1 σ1 ls lsR → ls.length = mxL y → zst ad1 σ1 st stR →
    ∀ (pc : Nat) (i : Instr) (k' : mC), k = (pc, i) :: k' → W p l e R s m args below meth c H locs cells slots Qw (F0 m pc lsR stR)
theorem zgo_of (hk : k <:+ cd y) (hc : zCt l D tc A ex σ0 p e s m args meth c y) (hr : zRoom d y R) (hC : C0 ≤ R.cells) (hS : S0 ≤ R.slots)
    (qa : ∀ (σ' : mM) (ad' : Nat → Nat) (t : State) (o : Outcome) (v : Int), Aq v σ' → zOut (zrtN y) v o → zEnd A s below C0 S0 σ' o t → zLat ad σ ad' σ' → zHp D tc A ex σ0 kn ad' σ' t.heap → Qw t)
    (qb : ∀ (σ' : mM) (ad' : Nat → Nat) (t : State) (kd : Nat) (xa : Addr), Bq kd σ' → zThr s kd xa t → zEnd A s below C0 S0 σ' (.threw xa) t → zLat ad σ ad' σ' → zHp D tc A ex σ0 kn ad' σ' t.heap → Qw t) :
    zGo l D tc A ex σ0 kn y k p e R s m args below meth c ad σ C0 S0 Qw d Aq Bq := by
  intro ls st σ1 ad1 H locs cells slots lsR stR hR hl hz hlo hle hst pc i k' he
  exact hR p e R s m args below meth c hc hr ad1 H locs cells slots lsR stR C0 S0 hC hS hz hlo hle hst Qw (fun σ' ad' t o v a1 a2 a3 a4 a5 => qa σ' ad' t o v a1 a2 a3 (hl.tr a4) a5) (fun σ' ad' t kd xa a1 a2 a3 a4 a5 => qb σ' ad' t kd xa a1 a2 a3 (hl.tr a4) a5) pc i k' he hk
theorem nxb_ok {k : mC} {q : Nat} (h : nxb k q = true) : ∃ (i : Instr) (k' : mC), k = (q, i) :: k' := by
  unfold nxb at h
  split at h
  · cases h
  · rename_i r k'
    obtain ⟨a, b⟩ := r
    have := Nat.eq_of_beq_eq_true h
    simp only at this
    subst this
    exact ⟨b, k', rfl⟩
theorem zdn_ok {y pc n : Nat} {k : mC} {r : Instr} (h : zdn y pc k r n = true) : decode (zcoN y) pc = .ok (r, n) ∧ ∃ (i : Instr) (k' : mC), k = (pc + n, i) :: k' := by
  unfold zdn at h
  simp only [Bool.and_eq_true] at h
  exact ⟨zdec_ok h.1, nxb_ok h.2⟩
theorem zd4_ok {y pc n : Nat} {k : mC} {f : Fin 4 → Instr} {g : Instr} (h : zd4 y pc k n f g = true) : (∃ j : Fin 4, j.val = n ∧ zdn y pc k (f j) 1 = true) ∨ zdn y pc k g 2 = true := by
  unfold zd4 at h
  rw [Bool.or_eq_true] at h
  rcases h with h | h
  · left
    split at h
    · exact ⟨0, rfl, h⟩
    · exact ⟨1, rfl, h⟩
    · exact ⟨2, rfl, h⟩
    · exact ⟨3, rfl, h⟩
    · cases h
  · exact Or.inr h
theorem zget_len {ls : List mV} {n : Nat} {v : mV} (h : ls.getD n (3, 0) = v) (hv : v.1 ≠ 3) : ls[n]? = some v := by
  rw [List.getD_eq_getElem?_getD] at h
  cases hg : ls[n]? with
  | none => rw [hg] at h; subst h; exact absurd rfl hv
  | some u => rw [hg] at h; exact congrArg some h
end ZB
