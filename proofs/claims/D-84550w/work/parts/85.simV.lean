/-! THE SIMULATION: exceptions are made and thrown -/
set_option maxRecDepth 100000
set_option maxHeartbeats 4000000
theorem zxth {P : Cond → Prop} (h : ∀ w ∈ lw_all, P w) (l1 : P (.laysStatic Bundle.tN "UNASSIGNED_STACK" Bundle.steD)) (l2 : P (.laysStatic Bundle.tN "SUPPRESSED_SENTINEL" Bundle.listD)) : ∀ w ∈ Bundle.throwableAtoms, P w :=
  List.forall_mem_cons.mpr ⟨h _ q266, List.forall_mem_cons.mpr ⟨h _ q2095, List.forall_mem_cons.mpr ⟨h _ q2104, List.forall_mem_cons.mpr ⟨h _ q2109, List.forall_mem_cons.mpr ⟨h _ q2112, List.forall_mem_cons.mpr ⟨h _ q2114, List.forall_mem_cons.mpr ⟨h _ q2096, List.forall_mem_cons.mpr ⟨h _ q2097, List.forall_mem_cons.mpr ⟨h _ q280, List.forall_mem_cons.mpr ⟨h _ q281, List.forall_mem_cons.mpr ⟨h _ q2098, List.forall_mem_cons.mpr ⟨h _ q2103, List.forall_mem_cons.mpr ⟨h _ q2110, List.forall_mem_cons.mpr ⟨h _ q2126, List.forall_mem_cons.mpr ⟨h _ q2085, List.forall_mem_cons.mpr ⟨h _ q2127, List.forall_mem_cons.mpr ⟨h _ q2087, List.forall_mem_cons.mpr ⟨h _ q2128, List.forall_mem_cons.mpr ⟨h _ q2089, List.forall_mem_cons.mpr ⟨h _ q2099, List.forall_mem_cons.mpr ⟨l1, List.forall_mem_cons.mpr ⟨h _ q2101, List.forall_mem_cons.mpr ⟨l2, List.forall_mem_cons.mpr ⟨h _ q2091, (fun _ z => by cases z)⟩⟩⟩⟩⟩⟩⟩⟩⟩⟩⟩⟩⟩⟩⟩⟩⟩⟩⟩⟩⟩⟩⟩⟩
theorem zxch {P : Cond → Prop} (h : ∀ w ∈ lw_all, P w) (d2 : P (.declares (Bundle.init0 "java/lang/Exception"))) (d3 : P (.declares (Bundle.init0 "java/lang/Throwable"))) : ∀ w ∈ Bundle.chain0Atoms "java/lang/RuntimeException" ["java/lang/Exception"], P w :=
  List.forall_mem_append.mpr ⟨List.forall_mem_cons.mpr ⟨h _ q2119, List.forall_mem_cons.mpr ⟨h _ q2120, List.forall_mem_cons.mpr ⟨h _ q2121, List.forall_mem_cons.mpr ⟨h _ q2122, List.forall_mem_cons.mpr ⟨d2, (fun _ z => by cases z)⟩⟩⟩⟩⟩,
  List.forall_mem_cons.mpr ⟨h _ q2122, List.forall_mem_cons.mpr ⟨h _ q2123, List.forall_mem_cons.mpr ⟨h _ q2124, List.forall_mem_cons.mpr ⟨h _ q2096, List.forall_mem_cons.mpr ⟨d3, (fun _ z => by cases z)⟩⟩⟩⟩⟩⟩
theorem zxat1 {P : Cond → Prop} {own : String} {ic : Nat} (h : ∀ w ∈ lw_all, P w) (l1 : P (.laysStatic Bundle.tN "UNASSIGNED_STACK" Bundle.steD)) (l2 : P (.laysStatic Bundle.tN "SUPPRESSED_SENTINEL" Bundle.listD)) (d1 : P (.declares (Bundle.init0 "java/lang/RuntimeException"))) (d2 : P (.declares (Bundle.init0 "java/lang/Exception"))) (d3 : P (.declares (Bundle.init0 "java/lang/Throwable"))) (hl : P (.methodLink own ic (Bundle.init0 "java/lang/UnsupportedOperationException"))) (hc : P (.castable "java/lang/UnsupportedOperationException" "java/lang/UnsupportedOperationException")) (r1 : P (.isRef (.static Bundle.tN "UNASSIGNED_STACK" Bundle.steD))) (r2 : P (.isRef (.static Bundle.tN "SUPPRESSED_SENTINEL" Bundle.listD))) : ∀ w ∈ Bundle.ownAtoms0 own ic "java/lang/UnsupportedOperationException" ["java/lang/RuntimeException", "java/lang/Exception"], P w :=
  List.forall_mem_append.mpr ⟨List.forall_mem_append.mpr ⟨zxth h l1 l2, List.forall_mem_append.mpr ⟨List.forall_mem_cons.mpr ⟨h _ q2116, List.forall_mem_cons.mpr ⟨h _ q2117, List.forall_mem_cons.mpr ⟨h _ q2118, List.forall_mem_cons.mpr ⟨h _ q2119, List.forall_mem_cons.mpr ⟨d1, (fun _ z => by cases z)⟩⟩⟩⟩⟩,
  zxch h d2 d3⟩⟩,
  List.forall_mem_cons.mpr ⟨hl, List.forall_mem_cons.mpr ⟨h _ q2074, List.forall_mem_cons.mpr ⟨hc, List.forall_mem_cons.mpr ⟨h _ q2082, List.forall_mem_cons.mpr ⟨h _ q2083, List.forall_mem_cons.mpr ⟨h _ q2084, List.forall_mem_cons.mpr ⟨h _ q2086, List.forall_mem_cons.mpr ⟨h _ q2088, List.forall_mem_cons.mpr ⟨h _ q2090, List.forall_mem_cons.mpr ⟨r1, List.forall_mem_cons.mpr ⟨r2, List.forall_mem_cons.mpr ⟨h _ q2125, List.forall_mem_cons.mpr ⟨h _ q2093, List.forall_mem_cons.mpr ⟨h _ q2092, (fun _ z => by cases z)⟩⟩⟩⟩⟩⟩⟩⟩⟩⟩⟩⟩⟩⟩⟩
theorem zxw1 : Cond.instantiable "java/lang/UnsupportedOperationException" 6 ∈ lw_all ∧ Cond.initialized "java/lang/UnsupportedOperationException" ∈ lw_all := ⟨q2074, q269⟩
theorem zxat2 {P : Cond → Prop} {own : String} {ic : Nat} (h : ∀ w ∈ lw_all, P w) (l1 : P (.laysStatic Bundle.tN "UNASSIGNED_STACK" Bundle.steD)) (l2 : P (.laysStatic Bundle.tN "SUPPRESSED_SENTINEL" Bundle.listD)) (d1 : P (.declares (Bundle.init0 "java/lang/RuntimeException"))) (d2 : P (.declares (Bundle.init0 "java/lang/Exception"))) (d3 : P (.declares (Bundle.init0 "java/lang/Throwable"))) (hl : P (.methodLink own ic (Bundle.init0 "java/lang/IllegalArgumentException"))) (hc : P (.castable "java/lang/IllegalArgumentException" "java/lang/IllegalArgumentException")) (r1 : P (.isRef (.static Bundle.tN "UNASSIGNED_STACK" Bundle.steD))) (r2 : P (.isRef (.static Bundle.tN "SUPPRESSED_SENTINEL" Bundle.listD))) : ∀ w ∈ Bundle.ownAtoms0 own ic "java/lang/IllegalArgumentException" ["java/lang/RuntimeException", "java/lang/Exception"], P w :=
  List.forall_mem_append.mpr ⟨List.forall_mem_append.mpr ⟨zxth h l1 l2, List.forall_mem_append.mpr ⟨List.forall_mem_cons.mpr ⟨h _ q2373, List.forall_mem_cons.mpr ⟨h _ q2374, List.forall_mem_cons.mpr ⟨h _ q2375, List.forall_mem_cons.mpr ⟨h _ q2119, List.forall_mem_cons.mpr ⟨d1, (fun _ z => by cases z)⟩⟩⟩⟩⟩,
  zxch h d2 d3⟩⟩,
  List.forall_mem_cons.mpr ⟨hl, List.forall_mem_cons.mpr ⟨h _ q2364, List.forall_mem_cons.mpr ⟨hc, List.forall_mem_cons.mpr ⟨h _ q2366, List.forall_mem_cons.mpr ⟨h _ q2106, List.forall_mem_cons.mpr ⟨h _ q2367, List.forall_mem_cons.mpr ⟨h _ q2368, List.forall_mem_cons.mpr ⟨h _ q2369, List.forall_mem_cons.mpr ⟨h _ q2370, List.forall_mem_cons.mpr ⟨r1, List.forall_mem_cons.mpr ⟨r2, List.forall_mem_cons.mpr ⟨h _ q2125, List.forall_mem_cons.mpr ⟨h _ q2093, List.forall_mem_cons.mpr ⟨h _ q2371, (fun _ z => by cases z)⟩⟩⟩⟩⟩⟩⟩⟩⟩⟩⟩⟩⟩⟩⟩
theorem zxw2 : Cond.instantiable "java/lang/IllegalArgumentException" 6 ∈ lw_all ∧ Cond.initialized "java/lang/IllegalArgumentException" ∈ lw_all := ⟨q2364, q270⟩
theorem zxat3 {P : Cond → Prop} {own : String} {ic : Nat} (h : ∀ w ∈ lw_all, P w) (l1 : P (.laysStatic Bundle.tN "UNASSIGNED_STACK" Bundle.steD)) (l2 : P (.laysStatic Bundle.tN "SUPPRESSED_SENTINEL" Bundle.listD)) (d1 : P (.declares (Bundle.init0 "java/lang/RuntimeException"))) (d2 : P (.declares (Bundle.init0 "java/lang/Exception"))) (d3 : P (.declares (Bundle.init0 "java/lang/Throwable"))) (hl : P (.methodLink own ic (Bundle.init0 "java/lang/IllegalStateException"))) (hc : P (.castable "java/lang/IllegalStateException" "java/lang/IllegalStateException")) (r1 : P (.isRef (.static Bundle.tN "UNASSIGNED_STACK" Bundle.steD))) (r2 : P (.isRef (.static Bundle.tN "SUPPRESSED_SENTINEL" Bundle.listD))) : ∀ w ∈ Bundle.ownAtoms0 own ic "java/lang/IllegalStateException" ["java/lang/RuntimeException", "java/lang/Exception"], P w :=
  List.forall_mem_append.mpr ⟨List.forall_mem_append.mpr ⟨zxth h l1 l2, List.forall_mem_append.mpr ⟨List.forall_mem_cons.mpr ⟨h _ q2397, List.forall_mem_cons.mpr ⟨h _ q2398, List.forall_mem_cons.mpr ⟨h _ q2399, List.forall_mem_cons.mpr ⟨h _ q2119, List.forall_mem_cons.mpr ⟨d1, (fun _ z => by cases z)⟩⟩⟩⟩⟩,
  zxch h d2 d3⟩⟩,
  List.forall_mem_cons.mpr ⟨hl, List.forall_mem_cons.mpr ⟨h _ q2388, List.forall_mem_cons.mpr ⟨hc, List.forall_mem_cons.mpr ⟨h _ q2390, List.forall_mem_cons.mpr ⟨h _ q2107, List.forall_mem_cons.mpr ⟨h _ q2391, List.forall_mem_cons.mpr ⟨h _ q2392, List.forall_mem_cons.mpr ⟨h _ q2393, List.forall_mem_cons.mpr ⟨h _ q2394, List.forall_mem_cons.mpr ⟨r1, List.forall_mem_cons.mpr ⟨r2, List.forall_mem_cons.mpr ⟨h _ q2125, List.forall_mem_cons.mpr ⟨h _ q2093, List.forall_mem_cons.mpr ⟨h _ q2395, (fun _ z => by cases z)⟩⟩⟩⟩⟩⟩⟩⟩⟩⟩⟩⟩⟩⟩⟩
theorem zxw3 : Cond.instantiable "java/lang/IllegalStateException" 6 ∈ lw_all ∧ Cond.initialized "java/lang/IllegalStateException" ∈ lw_all := ⟨q2388, q272⟩
theorem zxat4 {P : Cond → Prop} {own : String} {ic : Nat} (h : ∀ w ∈ lw_all, P w) (l1 : P (.laysStatic Bundle.tN "UNASSIGNED_STACK" Bundle.steD)) (l2 : P (.laysStatic Bundle.tN "SUPPRESSED_SENTINEL" Bundle.listD)) (d1 : P (.declares (Bundle.init0 "java/lang/RuntimeException"))) (d2 : P (.declares (Bundle.init0 "java/lang/Exception"))) (d3 : P (.declares (Bundle.init0 "java/lang/Throwable"))) (hl : P (.methodLink own ic (Bundle.init0 "java/util/NoSuchElementException"))) (hc : P (.castable "java/util/NoSuchElementException" "java/util/NoSuchElementException")) (r1 : P (.isRef (.static Bundle.tN "UNASSIGNED_STACK" Bundle.steD))) (r2 : P (.isRef (.static Bundle.tN "SUPPRESSED_SENTINEL" Bundle.listD))) : ∀ w ∈ Bundle.ownAtoms0 own ic "java/util/NoSuchElementException" ["java/lang/RuntimeException", "java/lang/Exception"], P w :=
  List.forall_mem_append.mpr ⟨List.forall_mem_append.mpr ⟨zxth h l1 l2, List.forall_mem_append.mpr ⟨List.forall_mem_cons.mpr ⟨h _ q2412, List.forall_mem_cons.mpr ⟨h _ q2413, List.forall_mem_cons.mpr ⟨h _ q2414, List.forall_mem_cons.mpr ⟨h _ q2119, List.forall_mem_cons.mpr ⟨d1, (fun _ z => by cases z)⟩⟩⟩⟩⟩,
  zxch h d2 d3⟩⟩,
  List.forall_mem_cons.mpr ⟨hl, List.forall_mem_cons.mpr ⟨h _ q2403, List.forall_mem_cons.mpr ⟨hc, List.forall_mem_cons.mpr ⟨h _ q2405, List.forall_mem_cons.mpr ⟨h _ q2108, List.forall_mem_cons.mpr ⟨h _ q2406, List.forall_mem_cons.mpr ⟨h _ q2407, List.forall_mem_cons.mpr ⟨h _ q2408, List.forall_mem_cons.mpr ⟨h _ q2409, List.forall_mem_cons.mpr ⟨r1, List.forall_mem_cons.mpr ⟨r2, List.forall_mem_cons.mpr ⟨h _ q2125, List.forall_mem_cons.mpr ⟨h _ q2093, List.forall_mem_cons.mpr ⟨h _ q2410, (fun _ z => by cases z)⟩⟩⟩⟩⟩⟩⟩⟩⟩⟩⟩⟩⟩⟩⟩
theorem zxw4 : Cond.instantiable "java/util/NoSuchElementException" 6 ∈ lw_all ∧ Cond.initialized "java/util/NoSuchElementException" ∈ lw_all := ⟨q2403, q273⟩
theorem zsetF {P Q : State} {F : List Frame} {locs : List Loc} {cells slots : Nat} (h : (P.setFrames F).sameButNew Q locs cells slots) : P.sameButNew Q locs cells slots := ⟨by have h1 := h.1; rw [State.setFrames_setFrames] at h1; exact h1, h.2⟩
theorem zroom {u s : State} {pl : Platform} {r r' : Room} (h1 : u.frames.length + r'.frames ≤ s.frames.length + r.frames) (h2 : u.localsInUse + r'.locals ≤ s.localsInUse + r.locals) (h3 : pl.stackLimits u.me = pl.stackLimits s.me) (h4 : u.me.stackBytes = s.me.stackBytes) (h5 : u.heap.size + r'.cells ≤ s.heap.size + r.cells)
    (h6 : u.slotsUsed + r'.slots ≤ s.slotsUsed + r.slots) (h7 : u.slotsTrue = true) (h : s.hasRoom pl r = true) : u.hasRoom pl r' = true := by
  simp only [State.hasRoom, Bool.and_eq_true, decide_eq_true_eq] at h ⊢
  rw [h3, h4]
  obtain ⟨⟨⟨⟨a0, a1, a2, a3, a4, a5⟩, b1⟩, c1⟩, -⟩ := h
  exact ⟨⟨⟨⟨by omega, by omega, by omega, by omega, by omega, a5⟩, by omega⟩, by omega⟩, h7⟩
section ZV
variable {l : Launch} {D : va_G} {tc : Nat → ClassId} {A : Nat → Prop} {ex : Nat → Nat} {σ0 : mM} {kn : Nat → Nat → Option Int}
variable {d y : Nat} {k : mC} {ls st : List mV} {σ : mM} {Aq : mA} {Bq : mB} {pc : Nat} {C : zC}
variable {p : Program} {e : Env} {R : Room} {s : State} {m : MethodId} {args : Array Value} {below : List Frame} {meth : Method} {c : Code} {T : State} {locs : List Loc} {cells slots : Nat}
/-- the walk, begun anew at the place where it stands -/
theorem zrebase (X : Stand p l e R s m args below meth c T locs cells slots) (hc : cells ≤ R.cells) (hs : slots ≤ R.slots) :
    Stand p l e { R with cells := R.cells - cells, slots := R.slots - slots } (T.setFrames (.invoking m args :: below)) m args below meth c T [] 0 0 := by
  obtain ⟨g₀, hfr⟩ := X.frames_eq
  have hcurT : T.cur < T.threads.size := State.cur_lt_of_frames hfr
  have hF : (T.setFrames (.invoking m args :: below)).frames = .invoking m args :: below := State.frames_setFrames _ hcurT
  have hm : (T.setFrames (.invoking m args :: below)).vm.method? m = some meth := X.method'
  obtain ⟨th, hth, -⟩ := State.frames_cons hF
  obtain ⟨th', hth', -⟩ := State.frames_cons hfr
  have hcur0 : (T.setFrames (.invoking m args :: below)).cur < (T.setFrames (.invoking m args :: below)).threads.size := State.cur_lt_of_frames hF
  have hself : (T.setFrames (.invoking m args :: below)).setFrames T.frames = T := by rw [State.setFrames_setFrames, State.setFrames_self hth']
  have hsame : (T.setFrames (.invoking m args :: below)).sameButNew (T.setVm (T.setFrames (.invoking m args :: below)).vm) [] 0 0 := by
    have h := (State.sameButNew.refl (T.setFrames (.invoking m args :: below)) hth).setFrames T.frames hcur0
    rw [hself] at h
    exact h
  have e1 : ∀ x, (T.setFrames (.invoking m args :: below)).code? x = s.code? x := fun x => by
    rw [State.code?_eq, State.code?_eq]
    show (T.vm.method? x).bind _ = _
    rw [X.warmed.alike.method?]
  have e2 : (T.setFrames (.invoking m args :: below)).vm.method? m = s.vm.method? m := X.warmed.alike.method? m
  have hears : (T.setFrames (.invoking m args :: below)).hears m below = true := by
    have h := X.hears
    unfold State.hears at h ⊢
    simp only [e1, e2] at h ⊢
    exact h
  have hsm := X.same
  refine ⟨X.admits, X.cas, X.clock, hF, ?_, hears, hm, X.code, X.here, X.tail, State.WarmedH.refl _, by rw [State.stackLimits_setFrames], by rw [State.stackBytes_setFrames], hsame⟩
  refine zroom (s := s) (r := R) ?_ ?_ ?_ ?_ ?_ ?_ ?_ X.room
  · rw [hF, X.frames]; exact Nat.le_refl _
  · rw [State.localsInUse_invoking hF hm X.code, State.localsInUse_invoking X.frames X.method X.code]; exact Nat.le_refl _
  · rw [State.stackLimits_setFrames, X.limits]
  · rw [State.stackBytes_setFrames, X.bytes]
  · have := X.heapSize
    show T.heap.size + (R.cells - cells) ≤ s.heap.size + R.cells
    omega
  · have h1 : T.slotsUsed = s.slotsUsed + ((T.heap.toList.drop s.heap.size).map (·.slots.size)).sum := hsm.2.2.2.1
    have h2 : ((T.heap.toList.drop s.heap.size).map (·.slots.size)).sum ≤ slots := hsm.2.2.2.2.1
    show T.slotsUsed + (R.slots - slots) ≤ s.slotsUsed + R.slots
    omega
  · exact X.book
theorem zHp_spent {ad : Nat → Nat} {H H' : Heap} (hk00 : ∀ p, kn 0 p = none) (hs2 : 1 ≤ σ 0 2) (hs3 : 6 ≤ σ 0 3) (hk : ∀ a : Nat, a < H.size → H'[a]? = H[a]?) (hz : zHp D tc A ex σ0 kn ad σ H) : zHp D tc A ex σ0 kn ad (ms (ms σ 0 2 (σ 0 2 - 1)) 0 3 (σ 0 3 - 6)) H' := by
  obtain ⟨⟨h1, h1a, h1b, h1c, h1d⟩, h2, h3, h4, h5, h6, h7⟩ := hz
  have e0 : ms (ms σ 0 2 (σ 0 2 - 1)) 0 3 (σ 0 3 - 6) 0 0 = σ 0 0 := by unfold ms; simp
  have e2 : ms (ms σ 0 2 (σ 0 2 - 1)) 0 3 (σ 0 3 - 6) 0 2 = σ 0 2 - 1 := by unfold ms; simp
  have e3 : ms (ms σ 0 2 (σ 0 2 - 1)) 0 3 (σ 0 3 - 6) 0 3 = σ 0 3 - 6 := by unfold ms; simp
  have eb : ∀ b, b ≠ 0 → ms (ms σ 0 2 (σ 0 2 - 1)) 0 3 (σ 0 3 - 6) b = σ b := fun b hb => by rw [ms_same hb, ms_same hb]
  have hW : zW tc ad (ms (ms σ 0 2 (σ 0 2 - 1)) 0 3 (σ 0 3 - 6)) ((σ 0 0).toNat - 156) = zW tc ad σ ((σ 0 0).toNat - 156) := by
    unfold zW
    refine List.map_congr_left (fun j _ => ?_)
    rw [zE_congr (eb _ (by omega))]
  refine ⟨⟨by rw [e0]; exact h1, by rw [e0]; exact h1a, by rw [e2]; omega, by rw [e3]; omega, by rw [e0]; exact h1d⟩, h2, ?_, ?_, fun b q1 q2 => ?_, fun b j q1 q2 => ?_, fun b p v q => ?_⟩
  · rw [e0, hW]
    exact h3.kept (fun j x hx => hk x.1 ((h3 j x hx).lt))
  · rw [e0, hW]; exact h4
  · rw [e0] at q2
    exact zokc_congr (by rw [e0]; exact Int.le_refl _) (eb b (by omega)) (h5 b q1 q2)
  · rw [eb b (by omega)]; exact h6 b j q1 q2
  · by_cases hb : b = 0
    · subst hb; rw [hk00] at q; cases q
    · rw [eb b hb]; exact h7 b p v q
theorem zisref {cN n ds : String} {S : State} (h : va_Zq cN n ds A S S.heap) : (Cond.isRef (.static cN n ds)).before args S = true := by
  rcases h with h | ⟨t, h⟩
  · obtain ⟨cf, kf, fi, f, a, cell, h1, h2, h3, h4, h5, h6, h7, h8⟩ := h
    simp [Cond.before, Cond.holds, Cond.value, Term.eval, State.fieldNamed?, h1, h2, h4, h5, h6, h7]
  · obtain ⟨cf, kf, fi, f, a, cell, h1, h2, h3, h4, h5, h6, h7, h8⟩ := h
    simp [Cond.before, Cond.holds, Cond.value, Term.eval, State.fieldNamed?, h1, h2, h4, h5, h6, h7]
theorem zxat {own : String} {ic kd : Nat} {P : Cond → Prop} (hkd : kd ∈ [1, 2, 3, 4]) (h : ∀ w ∈ lw_all, P w) (l1 : P (.laysStatic Bundle.tN "UNASSIGNED_STACK" Bundle.steD)) (l2 : P (.laysStatic Bundle.tN "SUPPRESSED_SENTINEL" Bundle.listD)) (hw : ∀ w ∈ zThw, P w) (hl : P (.methodLink own ic (Bundle.init0 (zCN (1000 + kd))))) (r1 : P (.isRef (.static Bundle.tN "UNASSIGNED_STACK" Bundle.steD))) (r2 : P (.isRef (.static Bundle.tN "SUPPRESSED_SENTINEL" Bundle.listD))) :
    (∀ w ∈ Bundle.ownAtoms0 own ic (zCN (1000 + kd)) ["java/lang/RuntimeException", "java/lang/Exception"], P w) ∧ P (.instantiable (zCN (1000 + kd)) 6) ∧ P (.initialized (zCN (1000 + kd))) ∧ Bundle.fit (zCN (1000 + kd)) = true := by
  have d1 : P (.declares (Bundle.init0 "java/lang/RuntimeException")) := hw _ (by simp [zThw, Bundle.init0])
  have d2 : P (.declares (Bundle.init0 "java/lang/Exception")) := hw _ (by simp [zThw, Bundle.init0])
  have d3 : P (.declares (Bundle.init0 "java/lang/Throwable")) := hw _ (by simp [zThw, Bundle.init0])
  have hc : P (.castable (zCN (1000 + kd)) (zCN (1000 + kd))) := by
    refine hw _ ?_
    simp only [List.mem_cons, List.not_mem_nil, or_false] at hkd
    rcases hkd with rfl | rfl | rfl | rfl <;> simp [zThw]
  simp only [List.mem_cons, List.not_mem_nil, or_false] at hkd
  rcases hkd with rfl | rfl | rfl | rfl
  · exact ⟨zxat1 h l1 l2 d1 d2 d3 hl hc r1 r2, h _ zxw1.1, h _ zxw1.2, by decide +kernel⟩
  · exact ⟨zxat2 h l1 l2 d1 d2 d3 hl hc r1 r2, h _ zxw2.1, h _ zxw2.2, by decide +kernel⟩
  · exact ⟨zxat3 h l1 l2 d1 d2 d3 hl hc r1 r2, h _ zxw3.1, h _ zxw3.2, by decide +kernel⟩
  · exact ⟨zxat4 h l1 l2 d1 d2 d3 hl hc r1 r2, h _ zxw4.1, h _ zxw4.2, by decide +kernel⟩
theorem zXL_kd : ∀ u ∈ zXL, ∃ kd, u.2.2 = 1000 + kd ∧ kd ∈ [1, 2, 3, 4] := by
  have h : ∀ u ∈ zXL, 1000 ≤ u.2.2 ∧ u.2.2 - 1000 ∈ [1, 2, 3, 4] := by decide +kernel
  exact fun u hu => ⟨u.2.2 - 1000, by have := (h u hu).1; omega, (h u hu).2⟩
theorem zc_newx {t : Nat} (hk00 : ∀ p, kn 0 p = none) (ht : Nat.blt t 1000 = false) (hy : y ∈ (List.range 462).drop 2) (hs : (pc, .new t) :: k <:+ cd y) (ho : zokI y pc (.new t) k = true) (h : sem kn C d y pc (.new t) k ls st σ Aq Bq (fun k ls st σ => zReal l D tc A ex σ0 kn d y k ls st σ Aq Bq)) : zReal l D tc A ex σ0 kn d y ((pc, .new t) :: k) ls st σ Aq Bq := by
  intro p e R s m args below meth c hc hr ad H locs cells slots lsR stR C0 S0 hC hS hz hlo hle hst Qw qa qb pc' i' k'' he _
  cases he
  obtain ⟨hx, hb, hml, hrt, hlk, hown, hts, hK, hE, hnm, hn1, hn2, hxt⟩ := id hc
  obtain ⟨⟨⟨hbl, hbh⟩, hex, hP, hD, hok, hxm, hkn⟩, hSS, hcc, hss⟩ := id hz
  have hr1 := hr.1
  have hr2 := hr.2
  have hht := zhtm y hy
  unfold zokI at ho
  dsimp only at ho
  split at ho
  · rename_i j n0 hd
    simp only [Bool.and_eq_true, Bool.or_eq_true] at ho
    obtain ⟨⟨⟨hn, hq⟩, hli⟩, hrest⟩ := ho
    obtain rfl := beqN hn
    have hli := zCL_ok _ (mem3_ok _ hli)
    rcases hrest with hrest | ⟨⟨hd3, hd7⟩, hrest⟩
    · rw [ht] at hrest; cases hrest
    split at hrest
    · rename_i j2 n2 hd4
      rw [Bool.and_eq_true] at hrest
      obtain ⟨hn2', hxl⟩ := hrest
      obtain rfl := beqN hn2'
      have hxm2 := mem3_ok _ hxl
      have hxl := zXL_ok _ hxm2
      obtain ⟨kd, hkd1, hkd⟩ := zXL_kd _ hxm2
      dsimp only at hkd1
      subst hkd1
      have hd3 := zdec_ok hd3
      have hd7 := zdec_ok hd7
      unfold sem at h
      dsimp only at h
      rw [ht] at h
      dsimp only at h
      obtain ⟨hl13, h⟩ := noN_ok h
      obtain ⟨⟨hs2, hs3⟩, h⟩ := h
      split at h
      · rename_i hcv
        have hB := zhB_all y hy
        rw [← hxt.1] at hB
        have hout := zuncov _ _ hB hcv
        intro T hT X
        have X0 := zrebase X (by omega) (by omega)
        have hW : s.WarmedH (T.setFrames (.invoking m args :: below)).vm := X.warmed
        have hts0 : ∀ w ∈ lw_all, w.before args (T.setFrames (.invoking m args :: below)) = true := fun w hw => pay_in hts lw_self w hw args _ hW
        have hH0 : (T.setFrames (.invoking m args :: below)).heap = H := hT
        obtain ⟨-, -, -, htr, -, hthw, hz7, hz8, hl1, hl2⟩ := zXt_moved (U := T.setFrames (.invoking m args :: below)) (c' := c) (y' := y) hW (by rw [hH0]; exact hSS.1) (fun a h1 h2 => by rw [hH0]; exact hSS.2.1 a h1 h2) hxt.1 hxt
        have hown0 : (T.setFrames (.invoking m args :: below)).vm.findClass (zR (mcl y)) = some m.cls := by rw [hW.alike.findClass]; exact hown
        obtain ⟨hat, hins, hini, hfit⟩ := zxat (own := zR (mcl y)) (ic := j2) (P := fun w => w.before args (T.setFrames (.invoking m args :: below)) = true) hkd hts0 (hl1 args) (hl2 args) (fun w hw => hthw w hw args) (hts0 _ hxl) (zisref hz7) (zisref hz8)
        obtain ⟨vm₁, cX, kX, hfX, hkX, hord, hsz6, X₁, st1⟩ := X0.newCold hx hown0 (hts0 _ hli) hins hini (g := F0 m pc lsR stR) rfl (by rw [hb]; exact hd) (by show 0 + 1 ≤ R.cells - cells; omega) (by show 0 + 6 ≤ R.slots - slots; omega)
        generalize hT1 : (T.setVm vm₁).pushCell { cls := cX, slots := kX.instanceTypes.map defaultValue, vm := .none } = T1 at X₁ st1
        have hcellA : T1.heap[T.heap.size]? = some (freshCell cX kX) := by rw [← hT1]; exact State.heap_pushCell_size _ _
        have hcats := zcats hst
        have hw1 : W p l e { R with cells := R.cells - cells, slots := R.slots - slots } (T.setFrames (.invoking m args :: below)) m args below meth c T1.heap [] (0 + 1) (0 + 6) Qw (F0 m (pc + 3) lsR (.ref T.heap.size :: stR)) := by
          refine lv_dup hx hb hd3 rfl ?_
          intro T2 hT2 X2
          obtain ⟨U, hsteps, hrun, hend, hWU, hsame, ce, hce, hoc⟩ := X2.ctorThrow0 hx htr hown0 hfit (by decide +kernel) hat (fun _ z => by cases z) hfX hkX (by rw [hT2]; exact hcellA) (by show T.heap.size ≤ T.heap.size; exact Nat.le_refl _)
            (g := F0 m (pc + 3 + 1) lsR (.ref T.heap.size :: .ref T.heap.size :: stR)) rfl (hlo.1.trans (hle.trans hml.symm)) rfl rfl (rest := stR) rfl (by rw [hb]; exact hd4) (by rw [hb]; exact hd7) (fun x hx => hout x hx)
            (by show 2 + 3 < R.frames; omega) (by show 2 * 0 + ((Value.ref T.heap.size).category + (stR.map fun v => v.category).sum) + (13 * (2 + 1) + 41) ≤ R.locals; have h99 : (Value.ref T.heap.size).category = 1 := rfl; omega) hlk
          have hkeep : ∀ a : Nat, a < T.heap.size → U.heap[a]? = T.heap[a]? := fun a ha => by
            obtain ⟨cc, hcc2⟩ : ∃ cc, T.heap[a]? = some cc := ⟨_, Array.getElem?_eq_getElem ha⟩
            rw [hcc2]
            exact State.sameButNew.kept_nil (s := T.setFrames (.invoking m args :: below)) hsame hcc2
          have hszU : T.heap.size ≤ U.heap.size := hsame.2.1
          refine ⟨U, hsteps, qb (ms (ms σ 0 2 (σ 0 2 - 1)) 0 3 (σ 0 3 - 6)) ad U kd T.heap.size ?_ ?_ ?_ ?_ ?_⟩
          · have : 1000 + kd - 1000 = kd := by omega
            rw [this] at h
            exact h
          · exact ⟨ce, ce.cls, hce, by rw [hoc.vm]; rfl, by rw [← hW.alike.findClass]; exact hoc.cls, rfl⟩
          · refine ⟨hrun, hend, State.WarmedH.trans X.warmed hWU, ⟨Nat.le_trans hSS.1 (by rw [← hT]; exact hszU), fun q h1 h2 => ?_⟩, locs ++ [], cells + (0 + 1), slots + (0 + 6), ?_, ?_, ?_, ?_⟩
            · rw [hkeep q (by rw [hT]; exact Nat.lt_of_lt_of_le h1 hSS.1), hT]
              exact hSS.2.1 q h1 h2
            · have hs1 : T.sameButNew ({ U with vm := T.vm } : State) [] (0 + 1) (0 + 6) := zsetF hsame
              have hs2' := X.same.trans (hs1.setVm s.vm)
              exact hs2'
            · intro q hq
              rw [List.append_nil] at hq
              exact hSS.2.2 q hq
            · push_cast
              show (cells : Int) + 1 + (ms (ms σ 0 2 (σ 0 2 - 1)) 0 3 (σ 0 3 - 6)) 0 2 = C0
              have : (ms (ms σ 0 2 (σ 0 2 - 1)) 0 3 (σ 0 3 - 6)) 0 2 = σ 0 2 - 1 := by unfold ms; simp
              rw [this]
              omega
            · push_cast
              show (slots : Int) + 6 + (ms (ms σ 0 2 (σ 0 2 - 1)) 0 3 (σ 0 3 - 6)) 0 3 = S0
              have : (ms (ms σ 0 2 (σ 0 2 - 1)) 0 3 (σ 0 3 - 6)) 0 3 = σ 0 3 - 6 := by unfold ms; simp
              rw [this]
              omega
          · exact ⟨by unfold ms; simp, fun _ _ => rfl⟩
          · exact zHp_spent hk00 hs2 hs3 (by rw [← hT]; exact hkeep) hz.1
        obtain ⟨t, u1, u2⟩ := hw1 T1 rfl X₁
        exact ⟨t, st1 t u1, u2⟩
      · exact h.elim
    · cases hrest
  · cases ho
end ZV
