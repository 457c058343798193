/-! THE SIMULATION: the one array of arrays -/
set_option maxRecDepth 100000
set_option maxHeartbeats 4000000
/-- the outer cell with i rows laid in; a row -/
def zrO (cA : ClassId) (h : Nat) : Nat → Cell
  | 0 => { cls := cA, slots := Array.replicate 4 .null, vm := .none }
  | i + 1 => (zrO cA h i).setSlot i (.ref (h + 1 + i))
def zrI (cB : ClassId) : Cell := { cls := cB, slots := Array.replicate 588 (.int 0), vm := .none }
def zrS (S : State) (cA cB : ClassId) : Nat → State
  | 0 => S.pushCell (zrO cA S.heap.size 0)
  | i + 1 => ((zrS S cA cB i).pushCell (zrI cB)).setCell S.heap.size (zrO cA S.heap.size (i + 1))
theorem zrO_is (cA : ClassId) (h : Nat) : ∀ i, (zrO cA h i).cls = cA ∧ (zrO cA h i).vm = .none ∧ (zrO cA h i).slots.size = 4
  | 0 => ⟨rfl, rfl, by simp [zrO]⟩
  | i + 1 => by
    obtain ⟨h1, h2, h3⟩ := zrO_is cA h i
    exact ⟨h1, h2, by simp [zrO, Cell.setSlot, h3]⟩
theorem zrS_is (S : State) (cA cB : ClassId) : ∀ i, (zrS S cA cB i).heap.size = S.heap.size + 1 + i ∧ (zrS S cA cB i).heap[S.heap.size]? = some (zrO cA S.heap.size i) ∧ (zrS S cA cB i).vm = S.vm ∧ (zrS S cA cB i).slotsUsed = S.slotsUsed + 4 + i * 588 ∧
    (∀ a, a < S.heap.size → (zrS S cA cB i).heap[a]? = S.heap[a]?) ∧ ∀ j, j < i → (zrS S cA cB i).heap[S.heap.size + 1 + j]? = some (zrI cB)
  | 0 => by
    refine ⟨by simp [zrS], State.heap_pushCell_size _ _, rfl, by simp [zrS, State.pushCell, zrO], fun a ha => ?_, fun j hj => by omega⟩
    show (S.pushCell _).heap[a]? = _
    rw [State.heap_pushCell_of_lt (h := ha)]
  | i + 1 => by
    obtain ⟨h1, h2, h3, h4, h5, h6⟩ := zrS_is S cA cB i
    have hsz : ((zrS S cA cB i).pushCell (zrI cB)).heap.size = S.heap.size + 1 + i + 1 := by simp [State.pushCell, h1]
    have hlt0 : S.heap.size < ((zrS S cA cB i).pushCell (zrI cB)).heap.size := by rw [hsz]; omega
    refine ⟨by simp [zrS, State.setCell, hsz]; omega, ?_, h3, ?_, fun a ha => ?_, fun j hj => ?_⟩
    · show (((zrS S cA cB i).pushCell (zrI cB)).setCell S.heap.size _).heap[S.heap.size]? = _
      exact heapAt_setCell_self (s := (zrS S cA cB i).pushCell (zrI cB)) _ hlt0
    · show ((zrS S cA cB i).pushCell (zrI cB)).slotsUsed = _
      have : ((zrS S cA cB i).pushCell (zrI cB)).slotsUsed = (zrS S cA cB i).slotsUsed + (zrI cB).slots.size := rfl
      rw [this, h4]
      have h9 : (zrI cB).slots.size = 588 := by simp [zrI]
      rw [h9]
      omega
    · show (((zrS S cA cB i).pushCell (zrI cB)).setCell S.heap.size _).heap[a]? = _
      have : (((zrS S cA cB i).pushCell (zrI cB)).setCell S.heap.size (zrO cA S.heap.size (i + 1))).heap[a]? = ((zrS S cA cB i).pushCell (zrI cB)).heap[a]? := by
        simp only [State.setCell, Array.getElem?_setIfInBounds]
        rw [if_neg (by omega)]
      have hl : a < (zrS S cA cB i).heap.size := by rw [h1]; omega
      rw [this, State.heap_pushCell_of_lt (h := hl)]
      exact h5 a ha
    · have : (((zrS S cA cB i).pushCell (zrI cB)).setCell S.heap.size (zrO cA S.heap.size (i + 1))).heap[S.heap.size + 1 + j]? = ((zrS S cA cB i).pushCell (zrI cB)).heap[S.heap.size + 1 + j]? := by
        simp only [State.setCell, Array.getElem?_setIfInBounds]
        rw [if_neg (by omega)]
      show (((zrS S cA cB i).pushCell (zrI cB)).setCell S.heap.size _).heap[_]? = _
      rw [this]
      by_cases hj2 : j < i
      · have hl : S.heap.size + 1 + j < (zrS S cA cB i).heap.size := by rw [h1]; omega
        rw [State.heap_pushCell_of_lt (h := hl)]
        exact h6 j hj2
      · have e : S.heap.size + 1 + j = (zrS S cA cB i).heap.size := by omega
        rw [e]
        exact State.heap_pushCell_size _ _
section ZWW
variable {l : Launch} {p : Program} {e : Env} {R : Room} {s : State} {m : MethodId} {args : Array Value} {below : List Frame} {meth : Method} {c : Code} {T : State} {locs : List Loc} {cells slots : Nat}
theorem zrStand (X : Stand p l e R s m args below meth c T locs cells slots) (cA cB : ClassId) : ∀ i, Stand p l e R s m args below meth c (zrS T cA cB i) (locs ++ (List.range i).map fun j => ⟨T.heap.size, j⟩) (cells + 1 + i) (slots + 4 + i * 588)
  | 0 => by
    have h := X.pushed (zrO cA T.heap.size 0)
    rw [(zrO_is cA T.heap.size 0).2.2] at h
    simpa [zrS] using h
  | i + 1 => by
    have Xi := zrStand X cA cB i
    obtain ⟨h1, h2, h3, h4, h5, h6⟩ := zrS_is T cA cB i
    have hcell : ((zrS T cA cB i).pushCell (zrI cB)).heap[T.heap.size]? = some (zrO cA T.heap.size i) := by
      have hl : T.heap.size < (zrS T cA cB i).heap.size := by rw [h1]; omega
      rw [State.heap_pushCell_of_lt (h := hl)]
      exact h2
    have h := (Xi.pushed (zrI cB)).stored hcell i (.ref (T.heap.size + 1 + i))
    have e1 : (zrI cB).slots.size = 588 := by simp [zrI]
    rw [e1] at h
    have e2 : (locs ++ (List.range (i + 1)).map fun j => (⟨T.heap.size, j⟩ : Loc)) = (locs ++ (List.range i).map fun j => (⟨T.heap.size, j⟩ : Loc)) ++ [⟨T.heap.size, i⟩] := by simp [List.range_succ, List.append_assoc]
    have e3 : slots + 4 + (i + 1) * 588 = slots + 4 + i * 588 + 588 := by omega
    rw [e2, e3]
    exact h
/-- the heap with the outer cell and four rows behind it -/
def zHn (H : Heap) (o r : Cell) : Heap := ((((H.push o).push r).push r).push r).push r
theorem zHn_size {H : Heap} {o r : Cell} : (zHn H o r).size = H.size + 5 := by simp [zHn]
theorem zHn_old {H : Heap} {o r : Cell} {q : Nat} (h : q < H.size) : (zHn H o r)[q]? = H[q]? := by
  unfold zHn
  rw [Array.getElem?_push, if_neg (by simp; omega), Array.getElem?_push, if_neg (by simp; omega), Array.getElem?_push, if_neg (by simp; omega), Array.getElem?_push, if_neg (by simp; omega), Array.getElem?_push, if_neg (by omega)]
theorem zHn_out {H : Heap} {o r : Cell} : (zHn H o r)[H.size]? = some o := by
  unfold zHn
  rw [Array.getElem?_push, if_neg (by simp only [Array.size_push]; omega), Array.getElem?_push, if_neg (by simp only [Array.size_push]; omega), Array.getElem?_push, if_neg (by simp only [Array.size_push]; omega), Array.getElem?_push, if_neg (by simp only [Array.size_push]; omega), Array.getElem?_push, if_pos rfl]
theorem zHn_row {H : Heap} {o r : Cell} {j : Nat} (h : j < 4) : (zHn H o r)[H.size + 1 + j]? = some r := by
  unfold zHn
  rcases (by omega : j = 0 ∨ j = 1 ∨ j = 2 ∨ j = 3) with rfl | rfl | rfl | rfl
  · rw [Array.getElem?_push, if_neg (by simp), Array.getElem?_push, if_neg (by simp), Array.getElem?_push, if_neg (by simp), Array.getElem?_push, if_pos (by simp)]
  · rw [Array.getElem?_push, if_neg (by simp), Array.getElem?_push, if_neg (by simp), Array.getElem?_push, if_pos (by simp)]
  · rw [Array.getElem?_push, if_neg (by simp), Array.getElem?_push, if_pos (by simp)]
  · rw [Array.getElem?_push, if_pos (by simp)]
theorem zHn_is {S : State} {cA cB : ClassId} : (zrS S cA cB 4).heap = zHn S.heap (zrO cA S.heap.size 4) (zrI cB) := by
  obtain ⟨h1, h2, h3, h4, h5, h6⟩ := zrS_is S cA cB 4
  refine Array.ext_getElem? (fun q => ?_)
  rcases Nat.lt_or_ge q S.heap.size with hq | hq
  · rw [h5 q hq, zHn_old hq]
  · rcases Nat.lt_or_ge q (S.heap.size + 5) with hq2 | hq2
    · by_cases e : q = S.heap.size
      · rw [e, h2, zHn_out]
      · obtain ⟨j, rfl⟩ : ∃ j, q = S.heap.size + 1 + j := ⟨q - S.heap.size - 1, by omega⟩
        have hj : j < 4 := by omega
        rw [h6 j hj, zHn_row hj]
    · rw [Array.getElem?_eq_none (by omega), Array.getElem?_eq_none (by rw [zHn_size]; omega)]
theorem zrS_top (S : State) (f : JFrame) (cA cB : ClassId) : ∀ i, zrS (S.setTop f) cA cB i = (zrS S cA cB i).setTop f
  | 0 => rfl
  | i + 1 => by
    have ih := zrS_top S f cA cB i
    unfold zrS
    rw [ih, State.heap_setTop, State.pushCell_setTop, State.setCell_setTop]
section ZWM
variable {E : CtlPost} {dd : Bool} {acts : List Action} {S : State}
/-- one array is made -/
theorem zmkA {cls comp : ClassId} {k : Class} {ty : FieldType} {len : Nat} {v0 : Value} (hk : S.vm.classes[cls]? = some k) (hkd : k.kind = .array comp ty) (hl : ¬ len > e.platform.arrayLengthLimit) (hh : ¬ len * componentBytes ty > e.platform.maxHeapBytes)
    (hf : fits ty v0 = true) (hd0 : v0.isDefault = true) (h1 : S.heap.size < e.platform.maxCells) (h2 : S.slotsUsed + len ≤ e.platform.maxSlots) {Q : Addr → Pre} (hq : Q S.heap.size dd acts (S.pushCell { cls := cls, slots := Array.replicate len v0, vm := .none })) : wp (Jvm.newArray cls len v0) Q E e dd acts S := by
  have hfit : ∀ i v, (Array.replicate len v0)[i]? = some v → S.fitsSlot cls .none i v = true := by
    intro i v hv
    rw [Array.getElem?_replicate] at hv
    split at hv
    · cases hv
      simp [State.fitsSlot, State.slotType?, hk, hkd, hf]
    · cases hv
  have hac : allocActs (Array.replicate len v0) S.heap.size acts = acts := by
    unfold allocActs
    rw [if_pos]
    rw [Array.all_replicate]
    split <;> simp [hd0]
  simp only [Jvm.newArray, Jvm.arrayFits, wp_bind', W.ask, W.ite, hl, if_false, wp_pure', W.theClass, hk, hkd, hh, W.alloc, W.stop, Option.some.injEq, exists_eq_left', Array.size_replicate, hac]
  rw [if_neg (by omega)]
  exact ⟨h1, h2, hfit, hq⟩
/-- four rows of 588 -/
theorem zmk4 {cA cB cc : ClassId} {kA kB : Class} (hkA : S.vm.classes[cA]? = some kA) (hdA : kA.kind = .array cB (.array .int)) (hkB : S.vm.classes[cB]? = some kB) (hdB : kB.kind = .array cc .int)
    (hl : 588 ≤ e.platform.arrayLengthLimit) (hh : 2352 ≤ e.platform.maxHeapBytes) (h1 : S.heap.size + 5 ≤ e.platform.maxCells) (h2 : S.slotsUsed + 2356 ≤ e.platform.maxSlots)
    {Q : Addr → Pre} (hq : ∀ d' acts', Q S.heap.size d' acts' (zrS S cA cB 4)) : wp (multianewarray.make cA [4, 588]) Q E e dd acts S := by
  have n4 : (4 : Int32).toNatClampNeg = 4 := by decide
  have n588 : (588 : Int32).toNatClampNeg = 588 := by decide
  have g4 : ¬ (4 : Int32) < 0 := by decide
  have g588 : ¬ (588 : Int32) < 0 := by decide
  have hfind : ([588].find? (fun x : Int32 => decide (x < 0))) = none := by simp [g588]
  rw [multianewarray.make]
  simp only [wp_bind', W.ite, g4, if_false, wp_pure', W.theClass, hkA, hdA, Option.some.injEq, exists_eq_left', n4]
  refine zmkA hkA hdA (by omega) (by show ¬ 4 * 4 > _; omega) rfl rfl (by omega) (by omega) ?_
  simp only [hfind]
  rw [ite_self, wp_bind', Std.Legacy.Range.forIn_eq_forIn_range']
  have hsz : ([:4] : Std.Legacy.Range).size = 4 := by simp [Std.Legacy.Range.size]
  rw [hsz]
  show wp (forIn (List.range' 0 4 1) PUnit.unit _) _ E e dd acts _
  refine wp_forIn_inv (fun rest s' => ∃ i, i + rest.length = 4 ∧ rest = List.range' i rest.length ∧ s' = zrS S cA cB i) _ _ ⟨0, rfl, rfl, rfl⟩ ?_ ?_
  · rintro x rest s' d' acts' Q' ⟨i, hi, hl2, rfl⟩ hnext
    rw [List.length_cons] at hi
    rw [List.length_cons, List.range'_succ] at hl2
    obtain ⟨rfl, hrest⟩ := List.cons.inj hl2
    obtain ⟨f1, f2, f3, f4, f5, f6⟩ := zrS_is S cA cB x
    obtain ⟨o1, o2, o3⟩ := zrO_is cA S.heap.size x
    have hx : x < 4 := by omega
    have hlt0 : S.heap.size < (zrS S cA cB x).heap.size := by rw [f1]; omega
    simp only [wp_bind']
    rw [multianewarray.make]
    simp only [wp_bind', W.ite, g588, if_false, wp_pure', W.theClass, f3, hkB, hdB, Option.some.injEq, exists_eq_left', n588]
    refine zmkA (by rw [f3]; exact hkB) hdB (by omega) (by show ¬ 588 * 4 > _; omega) rfl rfl (by rw [f1]; omega) (by rw [f4]; omega) ?_
    simp only [wp_bind', W.writeLoc, wp_pure']
    refine ⟨zrO cA S.heap.size x, by rw [State.heap_pushCell_of_lt (h := hlt0)]; exact f2, by rw [o2]; simp, by rw [o3]; exact hx, ?_, hnext _ _ _ ⟨x + 1, by omega, hrest, ?_⟩⟩
    · rw [o1, o2]
      simp [State.fitsSlot, State.slotType?, f3, hkA, hdA, fits]
    · rw [f1]
      rfl
  · rintro s' d' acts' ⟨i, hi, -, rfl⟩
    have : i = 4 := by simpa using hi
    subst this
    simp only [wp_pure']
    exact hq _ _
end ZWM
theorem zAOA {args : Array Value} {s : State} (h : (Cond.arrayOver (.array .int)).before args s = true) : ∃ (cB cA : ClassId) (kA : Class), s.vm.findClass "[I" = some cB ∧ s.vm.classes[cA]? = some kA ∧ kA.kind = .array cB (.array .int) ∧ s.vm.findClass "[[I" = some cA := by
  unfold Cond.before at h
  simp only [Cond.holds, Cond.value, beq_iff_eq] at h
  cases hc : s.vm.findClass (FieldType.array .int).toString with
  | none => simp [hc] at h
  | some comp =>
    simp only [hc, Option.bind_some, Option.bind_eq_some_iff, Option.map_eq_some_iff] at h
    obtain ⟨c, hi, k, hk, hb⟩ := h
    obtain ⟨hlt, hp, -⟩ := Array.findIdx?_eq_some_iff_getElem.mp hi
    rw [(Array.getElem?_eq_some_iff.mp hk).2] at hp
    cases hkind : k.kind with
    | array component ty =>
      rw [hkind] at hb hp
      simp at hb hp
      exact ⟨comp, c, k, hc, hk, by rw [hkind, hp, hb.1], hb.2⟩
    | _ => rw [hkind] at hb; simp at hb
end ZWW
section ZWN
variable {l : Launch} {p : Program} {e : Env} {R : Room} {s : State} {m : MethodId} {args : Array Value} {below : List Frame} {meth : Method} {c : Code} {H : Heap} {locs : List Loc} {cells slots : Nat} {Qw : State → Prop} {cc : ByteArray} {pc : Nat} {ls : Array Slot} {rest : List Value}
theorem zWmul (hexec : p.tables.exec = Jvm.exec) (hb : c.code = cc) {own : String} {index : Nat} (hown : s.vm.findClass own = some m.cls) (hcl : (Cond.classLink own index "[[I").before args s = true) (hover : (Cond.arrayOver (.array .int)).before args s = true) (harr : (Cond.arrayClass .int).before args s = true)
    (hdg : decode cc pc = .ok (.multianewarray index 2, 4)) (hcells : cells + 5 ≤ R.cells) (hslots : slots + 2356 ≤ R.slots)
    (kk : ∀ cA cB : ClassId, s.vm.findClass "[[I" = some cA → s.vm.findClass "[I" = some cB → W p l e R s m args below meth c (zHn H (zrO cA H.size 4) (zrI cB)) (locs ++ (List.range 4).map fun j => ⟨H.size, j⟩) (cells + 1 + 4) (slots + 4 + 4 * 588) Qw (F0 m (pc + 4) ls (.ref H.size :: rest))) :
    W p l e R s m args below meth c H locs cells slots Qw (F0 m pc ls (.int 588 :: .int 4 :: rest)) := by
  intro T hT X
  subst hT
  subst hb
  obtain ⟨cB, cA, kA, hcB, hkA, hdA, hcA⟩ := zAOA hover
  obtain ⟨cB', kB, cc', hcB', hkB, hdB⟩ := Cond.arrayClass_spec harr
  have eB : cB' = cB := Option.some.inj (hcB'.symm.trans hcB)
  subst eB
  have hpl : e.platform.magicAccessors = ({} : Platform).magicAccessors := by rw [X.admits.platform]
  obtain ⟨c0, hc0, hlk⟩ := Cond.classLink_spec hown hcl e.platform hpl
  have eA : c0 = cA := Option.some.inj (hc0.symm.trans hcA)
  subst eA
  obtain ⟨hg1, hw1, hr1⟩ := State.classEntry (e := e) X.warmed hlk
  generalize T.vm.noted m.cls index (.cls c0) = vm1 at hg1 hw1 hr1
  have hal : s.vm.Alike vm1 := hw1.alike
  obtain ⟨kA1, hkA1, heA⟩ := hal.2.2 _ _ hkA
  obtain ⟨kB1, hkB1, heB⟩ := hal.2.2 _ _ hkB
  have hdA1 : kA1.kind = .array cB' (.array .int) := by rw [heA]; exact hdA
  have hdB1 : kB1.kind = .array cc' .int := by rw [heB]; exact hdB
  have X1 := X.noted hw1
  have XS := zrStand X1 c0 cB' 4
  obtain ⟨r1, r2⟩ := X.roomAbove hcells hslots
  obtain ⟨t', a1, b1⟩ := kk c0 cB' hcA hcB (zrS (T.setVm vm1) c0 cB' 4) zHn_is XS
  refine ⟨t', ?_, b1⟩
  have hl : 588 ≤ e.platform.arrayLengthLimit := by rw [Launch.admits_arrayLengthLimit X.admits]; omega
  have hh : 2352 ≤ e.platform.maxHeapBytes := by rw [Launch.admits_maxHeapBytes X.admits]; omega
  jvm_step X.here [hexec, hdg]
  simp only [multianewarray.sem, wp_bind', W.resolveClassAt_links (State.method?_setTop (F0 m pc ls (.int 588 :: .int 4 :: rest)) X.here.top) hg1]
  rw [W.popN, if_neg (by decide)]
  refine ⟨F0 m pc ls (.int 588 :: .int 4 :: rest), State.topJava?_setTop' (s := T.setVm vm1) _ X.here.top, [.int 4, .int 588], rest, rfl, rfl, ?_⟩
  simp only [List.mapM_cons, List.mapM_nil, wp_bind', wp_pure']
  refine zmk4 hkA1 hdA1 hkB1 hdB1 hl hh (by show T.heap.size + 5 ≤ _; omega) (by show T.slotsUsed + 2356 ≤ _; omega) (fun d' acts' => ?_)
  have eS : ((T.setTop (F0 m pc ls (.int 588 :: .int 4 :: rest))).setVm vm1).setTop (F0 m pc ls rest) = (T.setVm vm1).setTop (F0 m pc ls rest) := by
    show ((T.setVm vm1).setTop _).setTop _ = _
    rw [State.setTop_setTop]
  show _
  rw [show ({ F0 m pc ls (.int 588 :: .int 4 :: rest) with stack := rest } : JFrame) = F0 m pc ls rest from rfl, eS, zrS_top]
  simp only [wp_bind', W.mark, W.pushRef, State.topJava?_setTop' _ XS.here.top, Option.some.injEq, exists_eq_left', State.setTop_setTop, State.heap_setTop]
  intro acts
  simp [jvm, XS.here.top]
  exact a1
end ZWN
section ZWP
variable {l : Launch} {D : va_G} {tc : Nat → ClassId} {A : Nat → Prop} {ex : Nat → Nat} {σ0 : mM} {kn : Nat → Nat → Option Int}
variable {d y : Nat} {k : mC} {ls st : List mV} {σ : mM} {Aq : mA} {Bq : mB} {pc : Nat} {C : zC}
theorem zDpush {ws : va_W} {q : Nat} {E0 : va_E} (hD : va_D A ws) (hlt : ∀ (k : Nat) (x : Nat × va_E), ws[k]? = some x → x.1 < q) (hA : A q) : va_D A (ws ++ [(q, E0)]) := by
  have key : ∀ (k : Nat) (x : Nat × va_E), (ws ++ [(q, E0)])[k]? = some x → (ws[k]? = some x ∧ x.1 < q) ∨ (k = ws.length ∧ x.1 = q) := by
    intro k x hk
    rcases Nat.lt_or_ge k ws.length with hl | hl
    · rw [List.getElem?_append_left hl] at hk
      exact Or.inl ⟨hk, hlt k x hk⟩
    · rw [List.getElem?_append_right hl] at hk
      have hz : k - ws.length < 1 := (List.getElem?_eq_some_iff.mp hk).1
      rw [show k - ws.length = 0 by omega] at hk
      cases hk
      exact Or.inr ⟨by omega, rfl⟩
  refine ⟨fun i j x y hx hy hxy => ?_, fun k x hx => ?_⟩
  · rcases key i x hx with ⟨h1, h2⟩ | ⟨h1, h2⟩ <;> rcases key j y hy with ⟨g1, g2⟩ | ⟨g1, g2⟩
    · exact hD.1 i j x y h1 g1 hxy
    · omega
    · omega
    · omega
  · rcases key k x hx with ⟨h1, h2⟩ | ⟨h1, h2⟩
    · exact hD.2 k x h1
    · rw [h2]; exact hA
theorem zbstep {ad : Nat → Nat} {H : Heap} {ln : Int} {q : Nat} {E0 : va_E} (hs2 : 1 ≤ σ 0 2) (hs3 : ln ≤ σ 0 3) (hk : ¬ shK (σ 0 0) = 0) (hkn : ∀ a p, kn a p = none) (hz : zHp D tc A ex σ0 kn ad σ H) (hlt : ∀ b : Nat, 156 ≤ b → (b : Int) < σ 0 0 → ad b < q) (hA : A q)
    (hat : va_at D zcls (q, E0) H) (hE : zE tc (zad ad σ q) (bornM σ ln) (σ 0 0).toNat = E0) : zHp D tc A ex σ0 kn (zad ad σ q) (bornM σ ln) H ∧ zLat ad σ (zad ad σ q) (bornM σ ln) ∧ (∀ b : Nat, 156 ≤ b → (b : Int) < bornM σ ln 0 0 → zad ad σ q b < q + 1) ∧ zad ad σ q (σ 0 0).toNat = q := by
  obtain ⟨⟨h1, h1'⟩, h2, h3, h4, h5, h6, h7⟩ := id hz
  have hP1 : va_P D zcls (zW tc ad σ ((σ 0 0).toNat - 156) ++ [(q, E0)]) H := h3.app (fun k x hx => by
    have hz : k < 1 := (List.getElem?_eq_some_iff.mp hx).1
    rw [show k = 0 by omega] at hx
    cases hx
    exact hat)
  have hD1 : va_D A (zW tc ad σ ((σ 0 0).toNat - 156) ++ [(q, E0)]) := zDpush h4 (fun k x hx => by
    have hl := (List.getElem?_eq_some_iff.mp hx).1
    rw [zW_len] at hl
    rw [zW_at hl] at hx
    cases hx
    exact hlt _ (by omega) (by omega)) hA
  obtain ⟨g1, g2⟩ := zborn hs2 hs3 hk hkn hz hP1 hD1 hE
  refine ⟨g1, g2, fun b q1 q2 => ?_, by unfold zad; rw [if_pos rfl]⟩
  rw [bornM_0] at q2
  unfold zad
  split
  · omega
  · have := hlt b q1 (by omega)
    omega
theorem zrO_arr {cA : ClassId} {h : Nat} : zrO cA h 4 = arrV cA 4 (fun j => .ref (h + 1 + j)) := by
  have h0 : zrO cA h 0 = arrV cA 4 (fun _ => .null) := arrV_new _ _ _
  have h4 : zrO cA h 4 = ((((zrO cA h 0).setSlot 0 (.ref (h + 1 + 0))).setSlot 1 (.ref (h + 1 + 1))).setSlot 2 (.ref (h + 1 + 2))).setSlot 3 (.ref (h + 1 + 3)) := rfl
  rw [h4, h0, arrV_store, arrV_store, arrV_store, arrV_store]
  refine arrV_congr (fun j hj => ?_)
  rcases (by omega : j = 0 ∨ j = 1 ∨ j = 2 ∨ j = 3) with rfl | rfl | rfl | rfl <;> simp [updV]
theorem zc_multi {a b : Nat} (hka : ∀ a p, (shp a).1 < 100 → kn a p = none) (hk0 : kn 156 0 = none → ∀ a p, kn a p = none) (hs : (pc, .multianewarray a b) :: k <:+ cd y) (ho : zokI y pc (.multianewarray a b) k = true) (h : sem kn C d y pc (.multianewarray a b) k ls st σ Aq Bq (fun k ls st σ => zReal l D tc A ex σ0 kn d y k ls st σ Aq Bq)) : zReal l D tc A ex σ0 kn d y ((pc, .multianewarray a b) :: k) ls st σ Aq Bq := by
  intro p e R s m args below meth c hc hr ad H locs cells slots lsR stR C0 S0 hC hS hz hlo hle hst Qw qa qb pc' i' k'' he _
  cases he
  have go := zgo_of (k := k) ((List.suffix_cons _ _).trans hs) hc hr hC hS qa qb
  obtain ⟨hx, hb, hml, hrt, hlk, hown, hts, hK, hE, hnm, hn1, hn2, -, -, hA, -, -, hthw, -⟩ := id hc
  obtain ⟨⟨⟨hbl, hbh⟩, hex, hP, hD, hok, hxm, hkn⟩, hSS, hcc, hss⟩ := id hz
  unfold zokI at ho
  dsimp only at ho
  split at ho
  · rename_i j dd n0 hd
    simp only [Bool.and_eq_true] at ho
    obtain ⟨⟨⟨hn, hq⟩, hdd⟩, hli⟩ := ho
    obtain rfl := beqN hn
    obtain rfl := beqN hdd
    obtain ⟨i2, k2, e2⟩ := nxb_ok hq
    have hli := zCL_ok _ (mem3_ok _ hli)
    unfold sem at h
    dsimp only at h
    split at h
    · rename_i mm n r
      obtain ⟨x1, q1, rfl, ex1, hst1⟩ := zst_i hst
      obtain ⟨x2, q2, rfl, ex2, hst2⟩ := zst_i hst1
      obtain ⟨hkn0, ⟨rfl, rfl⟩, hbb⟩ := nokn_ok h
      replace h := hbb
      clear hbb
      have hkn0 := hk0 hkn0
      have hx1 : x1 = 588 := by rw [← i32_of x1, ex1]; rfl
      have hx2 : x2 = 4 := by rw [← i32_of x2, ex2]; rfl
      subst hx1
      subst hx2
      obtain ⟨k0, l0, u0, w0, h⟩ := born_ok h
      obtain ⟨k1, l1, u1, w1, h⟩ := born_ok h
      obtain ⟨k2', l2, u2, w2, h⟩ := born_ok h
      obtain ⟨k3, l3, u3, w3, h⟩ := born_ok h
      obtain ⟨k4, l4, u4, w4, h⟩ := born_ok h
      have p0 : 0 < σ 0 0 := by omega
      have p1 : bornM σ 4 0 0 = σ 0 0 + 1 := bornM_0
      have p2 : bornM (bornM σ 4) 588 0 0 = σ 0 0 + 1 + 1 := by rw [bornM_0, p1]
      have p3 : bornM (bornM (bornM σ 4) 588) 588 0 0 = σ 0 0 + 1 + 1 + 1 := by rw [bornM_0, p2]
      have p4 : bornM (bornM (bornM (bornM σ 4) 588) 588) 588 0 0 = σ 0 0 + 1 + 1 + 1 + 1 := by rw [bornM_0, p3]
      have p5 : bornM (bornM (bornM (bornM (bornM σ 4) 588) 588) 588) 588 0 0 = σ 0 0 + 1 + 1 + 1 + 1 + 1 := by rw [bornM_0, p4]
      have c1 : bornM σ 4 0 2 = σ 0 2 - 1 := bornM_2 p0
      have c2 : bornM (bornM σ 4) 588 0 2 = σ 0 2 - 2 := by rw [bornM_2 (by omega), c1]; omega
      have c3 : bornM (bornM (bornM σ 4) 588) 588 0 2 = σ 0 2 - 3 := by rw [bornM_2 (by omega), c2]; omega
      have c4 : bornM (bornM (bornM (bornM σ 4) 588) 588) 588 0 2 = σ 0 2 - 4 := by rw [bornM_2 (by omega), c3]; omega
      have c5 : bornM (bornM (bornM (bornM (bornM σ 4) 588) 588) 588) 588 0 2 = σ 0 2 - 5 := by rw [bornM_2 (by omega), c4]; omega
      have f1 : bornM σ 4 0 3 = σ 0 3 - 4 := bornM_3 p0
      have f2 : bornM (bornM σ 4) 588 0 3 = σ 0 3 - 592 := by rw [bornM_3 (by omega), f1]; omega
      have f3 : bornM (bornM (bornM σ 4) 588) 588 0 3 = σ 0 3 - 1180 := by rw [bornM_3 (by omega), f2]; omega
      have f4 : bornM (bornM (bornM (bornM σ 4) 588) 588) 588 0 3 = σ 0 3 - 1768 := by rw [bornM_3 (by omega), f3]; omega
      have f5 : bornM (bornM (bornM (bornM (bornM σ 4) 588) 588) 588) 588 0 3 = σ 0 3 - 2356 := by rw [bornM_3 (by omega), f4]; omega
      generalize hs1 : bornM σ 4 = s1 at *
      generalize hs2 : bornM s1 588 = s2 at *
      generalize hs3 : bornM s2 588 = s3 at *
      generalize hs4 : bornM s3 588 = s4 at *
      generalize hs5 : bornM s4 588 = s5 at *
      have hA' : ∀ i, A (H.size + i) := fun i => hA _ (Nat.le_trans hSS.1 (Nat.le_add_right _ _))
      refine zWmul hx hb hown (hts _ hli) (hthw _ (by simp [zThw]) args) (hts _ q433) hd (by omega) (by omega) (fun cA cB hcA hcB => ?_)
      have eA : cA = tc 6 := Option.some.inj (hcA.symm.trans (hK.2 5 (tc 6, .array .int) rfl).2)
      have eB : cB = tc 1 := Option.some.inj (hcB.symm.trans (hK.2 0 (tc 1, .int) rfl).2)
      subst eA
      subst eB
      have hz0 : zHp D tc A ex σ0 kn ad σ (zHn H (zrO (tc 6) H.size 0) (zrI (tc 1))) := ⟨⟨hbl, hbh⟩, hex, hP.kept (fun k x hx => zHn_old (hP k x hx).lt), hD, hok, hxm, hkn⟩
      have hlt0 : ∀ b : Nat, 156 ≤ b → (b : Int) < σ 0 0 → ad b < H.size := fun b z1 z2 => by
        have := (hP (b - 156) _ (zW_at (by omega))).lt
        rw [show 156 + (b - 156) = b by omega] at this
        exact this
      have hO : vp_cell (tc 6) ((4, .inr (.inr (.inr (.inr (fun _ => none))))) : vp_A) = zrO (tc 6) H.size 0 := (arrV_new _ _ _).symm
      have hI : vp_cell (tc 1) ((588, .inl (fun _ => 0)) : vp_A) = zrI (tc 1) := (arrV_new _ _ _).symm
      have sh : ∀ (z : Int) (kd : Nat), shK z = kd → (shp z.toNat).1 = kd := fun z kd q => q
      have ln : ∀ (z : mM) (w : Int), ¬ shK (z 0 0) = 0 → 0 < z 0 0 → 156 ≤ z 0 0 → w = shL z (z 0 0) → w = ((shp (z 0 0).toNat).2 - 1 : Nat) := fun z w g1 g2 g3 g4 => by
        rw [g4]
        exact shL_of (σ := z) (a := z 0 0) (n := 0) (zxl _ (shp_lt _ g1) (by omega))
      have kn0 : ¬ shK (σ 0 0) = 0 := by rw [k0]; decide
      have kn1 : ¬ shK (s1 0 0) = 0 := by rw [k1]; decide
      have kn2 : ¬ shK (s2 0 0) = 0 := by rw [k2']; decide
      have kn3 : ¬ shK (s3 0 0) = 0 := by rw [k3]; decide
      have kn4 : ¬ shK (s4 0 0) = 0 := by rw [k4]; decide
      have n0 : (shp (σ 0 0).toNat).2 - 1 = 4 := by have := ln _ _ kn0 p0 hbl l0; omega
      have n1 : (shp (s1 0 0).toNat).2 - 1 = 588 := by have := ln _ _ kn1 (by omega) (by omega) l1; omega
      have n2 : (shp (s2 0 0).toNat).2 - 1 = 588 := by have := ln _ _ kn2 (by omega) (by omega) l2; omega
      have n3 : (shp (s3 0 0).toNat).2 - 1 = 588 := by have := ln _ _ kn3 (by omega) (by omega) l3; omega
      have n4 : (shp (s4 0 0).toNat).2 - 1 = 588 := by have := ln _ _ kn4 (by omega) (by omega) l4; omega
      have hatR : ∀ i, i < 4 → va_at D zcls (H.size + 1 + i, .inl (tc 1, 588, .inl (fun _ => 0))) (zHn H (zrO (tc 6) H.size 0) (zrI (tc 1))) := fun i hi => by
        show (zHn H _ _)[H.size + 1 + i]? = some (vp_cell _ _)
        rw [zHn_row hi, hI]
      obtain ⟨z1, L1, b1, a1⟩ := zbstep (q := H.size) (ln := 4) (E0 := .inl (tc 6, 4, .inr (.inr (.inr (.inr (fun _ => none)))))) u0 w0 kn0 hkn0 hz0 hlt0 (hA' 0) (by show (zHn H _ _)[H.size]? = some (vp_cell _ _); rw [zHn_out, hO])
        (by unfold zE; rw [sh _ _ k0]; simp only [n0]; rw [zrf_born p0])
      rw [hs1] at z1 L1 b1
      obtain ⟨z2, L2, b2, a2⟩ := zbstep (q := H.size + 1) (ln := 588) (E0 := .inl (tc 1, 588, .inl (fun _ => 0))) u1 w1 kn1 hkn0 z1 b1 (hA' 1) (hatR 0 (by omega)) (by unfold zE; rw [sh _ _ k1]; simp only [n1]; rw [zi32_born (by omega)])
      rw [hs2] at z2 L2 b2
      obtain ⟨z3, L3, b3, a3⟩ := zbstep (q := H.size + 1 + 1) (ln := 588) (E0 := .inl (tc 1, 588, .inl (fun _ => 0))) u2 w2 kn2 hkn0 z2 b2 (hA' 2) (hatR 1 (by omega)) (by unfold zE; rw [sh _ _ k2']; simp only [n2]; rw [zi32_born (by omega)])
      rw [hs3] at z3 L3 b3
      obtain ⟨z4, L4, b4, a4⟩ := zbstep (q := H.size + 1 + 1 + 1) (ln := 588) (E0 := .inl (tc 1, 588, .inl (fun _ => 0))) u3 w3 kn3 hkn0 z3 b3 (hA' 3) (hatR 2 (by omega)) (by unfold zE; rw [sh _ _ k3]; simp only [n3]; rw [zi32_born (by omega)])
      rw [hs4] at z4 L4 b4
      obtain ⟨z5, L5, b5, a5⟩ := zbstep (q := H.size + 1 + 1 + 1 + 1) (ln := 588) (E0 := .inl (tc 1, 588, .inl (fun _ => 0))) u4 w4 kn4 hkn0 z4 b4 (hA' 4) (hatR 3 (by omega)) (by unfold zE; rw [sh _ _ k4]; simp only [n4]; rw [zi32_born (by omega)])
      rw [hs5] at z5 L5 b5
      generalize had1 : zad ad σ H.size = ad1 at *
      generalize had2 : zad ad1 s1 (H.size + 1) = ad2 at *
      generalize had3 : zad ad2 s2 (H.size + 1 + 1) = ad3 at *
      generalize had4 : zad ad3 s3 (H.size + 1 + 1 + 1) = ad4 at *
      generalize had5 : zad ad4 s4 (H.size + 1 + 1 + 1 + 1) = ad5 at *
      have L15 : zLat ad1 s1 ad5 s5 := ((L2.tr L3).tr L4).tr L5
      have L25 : zLat ad2 s2 ad5 s5 := (L3.tr L4).tr L5
      have L35 : zLat ad3 s3 ad5 s5 := L4.tr L5
      have d0 : ad5 (σ 0 0).toNat = H.size := (L15.2 _ (by omega)).trans a1
      have d1 : ad5 (s1 0 0).toNat = H.size + 1 := (L25.2 _ (by omega)).trans a2
      have d2 : ad5 (s2 0 0).toNat = H.size + 1 + 1 := (L35.2 _ (by omega)).trans a3
      have d3 : ad5 (s3 0 0).toNat = H.size + 1 + 1 + 1 := (L5.2 _ (by omega)).trans a4
      have d4 : ad5 (s4 0 0).toNat = H.size + 1 + 1 + 1 + 1 := a5
      have hlt9 : (s4 0 0).toNat < 372 := shp_lt _ kn4
      generalize hσ' : ms (ms (ms (ms s5 (σ 0 0).toNat 0 (s1 0 0)) (σ 0 0).toNat 1 (s2 0 0)) (σ 0 0).toNat 2 (s3 0 0)) (σ 0 0).toNat 3 (s4 0 0) = σ' at *
      have hsame : ∀ b, b ≠ (σ 0 0).toNat → σ' b = s5 b := fun b hb => by rw [← hσ', ms_same hb, ms_same hb, ms_same hb, ms_same hb]
      have v3 : σ' (σ 0 0).toNat 3 = s4 0 0 := by rw [← hσ', ms_at]
      have v2 : σ' (σ 0 0).toNat 2 = s3 0 0 := by rw [← hσ', ms_ne (by decide), ms_at]
      have v1 : σ' (σ 0 0).toNat 1 = s2 0 0 := by rw [← hσ', ms_ne (by decide), ms_ne (by decide), ms_at]
      have v0 : σ' (σ 0 0).toNat 0 = s1 0 0 := by rw [← hσ', ms_ne (by decide), ms_ne (by decide), ms_ne (by decide), ms_at]
      have hj4 : ∀ j : Nat, j < 4 → σ' (σ 0 0).toNat (Int.ofNat j) = σ 0 0 + 1 + j ∧ ad5 (σ 0 0 + 1 + j).toNat = H.size + 1 + j := fun j hj => by
        rcases (by omega : j = 0 ∨ j = 1 ∨ j = 2 ∨ j = 3) with rfl | rfl | rfl | rfl
        · exact ⟨by rw [show (Int.ofNat 0 : Int) = 0 from rfl, v0, p1]; simp, by rw [← d1, p1]; simp⟩
        · exact ⟨by rw [show (Int.ofNat 1 : Int) = 1 from rfl, v1, p2]; omega, by rw [show σ 0 0 + 1 + ((1 : Nat) : Int) = s2 0 0 by rw [p2]; omega]; exact d2⟩
        · exact ⟨by rw [show (Int.ofNat 2 : Int) = 2 from rfl, v2, p3]; omega, by rw [show σ 0 0 + 1 + ((2 : Nat) : Int) = s3 0 0 by rw [p3]; omega]; exact d3⟩
        · exact ⟨by rw [show (Int.ofNat 3 : Int) = 3 from rfl, v3, p4]; omega, by rw [show σ 0 0 + 1 + ((3 : Nat) : Int) = s4 0 0 by rw [p4]; omega]; exact d4⟩
      have hs0 : σ' 0 = s5 0 := hsame 0 (by omega)
      have hEq : zE tc ad5 σ' (σ 0 0).toNat = .inl (tc 6, 4, .inr (.inr (.inr (.inr (zrf ad5 σ' (σ 0 0).toNat))))) := by unfold zE; rw [sh _ _ k0]; simp only [n0]
      have hg := zW_at (tc := tc) (ad := ad5) (σ := s5) (n := (s5 0 0).toNat - 156) (j := (σ 0 0).toNat - 156) (by omega)
      rw [show 156 + ((σ 0 0).toNat - 156) = (σ 0 0).toNat by omega] at hg
      have hz6 : zHp D tc A ex σ0 kn ad5 σ' (zHn H (zrO (tc 6) H.size 4) (zrI (tc 1))) := by
        refine zHp_set z5 (by omega) (by omega) hsame ?_ (fun pp vv hh => by rw [hkn0] at hh; cases hh) ?_ (z5.2.2.2.1.set hg)
        · unfold zokc
          rw [sh _ _ k0]
          show ∀ j : Nat, j < _ → _
          intro j hj
          rw [n0] at hj
          refine Or.inr ⟨?_, ?_⟩
          · rw [(hj4 j hj).1]; omega
          · rw [(hj4 j hj).1, hs0]; omega
        · refine z5.2.2.1.set z5.2.2.2.1 hg ?_ (fun q hq => ?_)
          · rw [hEq, d0]
            show (zHn H _ _)[H.size]? = some (vp_cell _ _)
            rw [zHn_out, zrO_arr, vp_cell_q]
            congr 1
            refine arrV_congr (fun j hj => ?_)
            unfold zrf
            rw [(hj4 j hj).1, if_neg (by omega), (hj4 j hj).2]
            rfl
          · rw [d0] at hq
            rcases Nat.lt_or_ge q H.size with h1 | h1
            · rw [zHn_old h1, zHn_old h1]
            · rcases Nat.lt_or_ge q (H.size + 5) with h2 | h2
              · rw [show q = H.size + 1 + (q - H.size - 1) by omega, zHn_row (by omega), zHn_row (by omega)]
              · rw [Array.getElem?_eq_none (by rw [zHn_size]; omega), Array.getElem?_eq_none (by rw [zHn_size]; omega)]
      have hL : zLat ad σ ad5 σ' := by
        have := L1.tr L15
        exact ⟨by rw [hs0]; exact this.1, this.2⟩
      refine go _ _ _ _ _ _ _ _ _ _ h hL ⟨hz6, ⟨by rw [zHn_size]; have := hSS.1; omega, fun q g1 g2 => ?_, fun x hx => ?_⟩, ?_, ?_⟩ (zloc_up hL.1 hL.2 hlo) hle (zpv (Or.inr ⟨⟨p0, by rw [hs0, p5]; omega⟩, by rw [d0]⟩) (zst_up hL.1 hL.2 hst2)) _ _ _ e2
      · rw [zHn_old (Nat.lt_of_lt_of_le g1 hSS.1)]
        exact hSS.2.1 q g1 g2
      · rcases List.mem_append.mp hx with hx | hx
        · exact hSS.2.2 x hx
        · obtain ⟨j, -, rfl⟩ := List.mem_map.mp hx
          exact hA' 0
      · rw [hs0, c5]; omega
      · rw [hs0, f5]; omega
    · exact h.elim
  · cases ho
end ZWP
