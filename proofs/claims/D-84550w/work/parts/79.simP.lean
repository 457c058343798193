/-! THE SIMULATION: handlers -/
set_option maxRecDepth 100000
set_option maxHeartbeats 4000000
theorem geN_ok {l : List mV} {n : Nat} {P : Prop} (h : geN l n P) : n ≤ l.length ∧ P := by
  unfold geN at h
  split at h
  · exact ⟨Nat.zero_le _, h⟩
  · have := hasN_ok h
    exact ⟨by omega, this.2⟩
/-- the class file's handlers and the resolved ones -/
def zhB (y : Nat) : List (Nat × Nat × Nat × Nat) → List (Nat × Nat × Nat × Nat) → Bool
  | [], [] => true
  | a :: r, b :: q => Nat.beq a.1 b.1 && Nat.beq a.2.1 b.2.1 && Nat.beq a.2.2.1 b.2.2.1 && memL b.2.2.2 [1, 2, 3, 4] && mem3 (mcl y, a.2.2.2, 1000 + b.2.2.2) zCL && !Nat.beq a.2.2.2 0 && nxb (jmp y b.2.2.1) b.2.2.1 && zhB y r q
  | _, _ => false
theorem zhB_all : ∀ y ∈ (List.range 462).drop 2, zhB y (zhr y) (hnd y) = true := by decide +kernel
def zh4 (x : ExceptionTableEntry) : Nat × Nat × Nat × Nat := (x.startPc, x.endPc, x.handlerPc, x.catchType)
theorem zcov {x : ExceptionTableEntry} {pc : Nat} : covers x pc = (Nat.ble x.startPc pc && Nat.blt pc x.endPc) := by
  unfold covers
  rw [Bool.eq_iff_iff]
  simp only [Bool.and_eq_true, decide_eq_true_eq, Nat.ble_eq, Nat.blt_eq]
theorem zuncov {y pc : Nat} : ∀ (xs : List ExceptionTableEntry) (hl : List (Nat × Nat × Nat × Nat)), zhB y (xs.map zh4) hl = true → covB pc hl = false → ∀ x ∈ xs, covers x pc = false
  | [], _, _, _, x, hx => by cases hx
  | x0 :: xs, [], h, _, _, _ => by cases h
  | x0 :: xs, b :: q, h, hc, x, hx => by
    simp only [List.map_cons, zhB, Bool.and_eq_true] at h
    obtain ⟨⟨⟨⟨⟨⟨⟨h1, h2⟩, h3⟩, h4⟩, h5⟩, h6⟩, h7⟩, h8⟩ := h
    simp only [covB, Bool.or_eq_false_iff] at hc
    rcases List.mem_cons.mp hx with rfl | hx
    · rw [zcov]
      have e1 : x.startPc = b.1 := beqN h1
      have e2 : x.endPc = b.2.1 := beqN h2
      rw [e1, e2]
      exact hc.1
    · exact zuncov xs q h8 hc.2 x hx
theorem zfind_kd {y pc kd h : Nat} : ∀ (xs : List ExceptionTableEntry) (hl : List (Nat × Nat × Nat × Nat)), zhB y (xs.map zh4) hl = true → findH pc kd hl = some h → kd ∈ [1, 2, 3, 4]
  | [], [], _, g => by cases g
  | [], _ :: _, hb, _ => by cases hb
  | _ :: _, [], hb, _ => by cases hb
  | x :: xs, (b1, b2, b3, b4) :: q, hb, g => by
    simp only [List.map_cons, zhB, Bool.and_eq_true, Bool.not_eq_true'] at hb
    obtain ⟨⟨⟨⟨⟨⟨⟨h1, h2⟩, h3⟩, h4⟩, h5⟩, h6⟩, h7⟩, h8⟩ := hb
    unfold findH at g
    split at g
    · rename_i hq
      simp only [Bool.and_eq_true] at hq
      rw [← beqN hq.2]
      exact memL_ok _ h4
    · exact zfind_kd xs q h8 g
/-- one row of the table, its class not resolved yet or resolved -/
theorem zrow {Q : Handler → Pre} {E : CtlPost} {e : Env} {dd : Bool} {acts : List Action} {S : State} {f : JFrame} {a : Addr} {x : ExceptionTableEntry} {t : List ExceptionTableEntry} {cT : ClassId} {cell : Cell} (hx : covers x f.pc = true) (h0 : x.catchType ≠ 0)
    (hl : S.vm.ClassLinks e.platform f.method.cls x.catchType cT) (hcell : S.heap[a]? = some cell) (hobj : ∀ k, cell.vm ≠ .statics k) (hk : ∃ k, S.vm.classes[cell.cls]? = some k) (hT : ∃ k, S.vm.classes[cT]? = some k) :
    wp (findHandler.go f a (x :: t)) Q E e dd acts S ↔ if S.vm.assignable cell.cls cT = true then Q (.found x.handlerPc) dd acts (S.setVm (S.vm.noted f.method.cls x.catchType (.cls cT))) else wp (findHandler.go f a t) Q E e dd acts (S.setVm (S.vm.noted f.method.cls x.catchType (.cls cT))) := by
  simp only [covers] at hx
  have hal : S.vm.Alike (S.vm.noted f.method.cls x.catchType (.cls cT)) := (Vm.Alike.refl S.vm).noted _ _ _
  obtain ⟨k1, hk1⟩ := hk
  obtain ⟨k2, hk2⟩ := hT
  obtain ⟨k1', hk1', -⟩ := hal.2.2 _ _ hk1
  obtain ⟨k2', hk2', -⟩ := hal.2.2 _ _ hk2
  obtain ⟨ha, ht⟩ := (resolveClass_links e.toSetting hl).op (op := VmOp.resolveClass f.method.cls x.catchType) rfl
  have hasg : (S.vm.noted f.method.cls x.catchType (.cls cT)).assignable cell.cls cT = S.vm.assignable cell.cls cT := hal.assignable cell.cls cT
  cases hfit : S.vm.assignable cell.cls cT
  · rw [hfit] at hasg
    simp [findHandler.go, hx, h0, ha, ht, hcell, hobj, hk1', hk2', hasg, VmOp.dirties, VmOp.acts]
  · rw [hfit] at hasg
    simp [findHandler.go, hx, h0, ha, ht, hcell, hobj, hk1', hk2', hasg, VmOp.dirties, VmOp.acts]
/-- the search through the table: the handler that findH names -/
theorem zsearch {e : Env} {s : State} {args : Array Value} {y kd h : Nat} {f : JFrame} {a : Addr} {cell : Cell} {cX : ClassId} (hpl : e.platform.magicAccessors = ({} : Platform).magicAccessors) (hown : s.vm.findClass (zR (mcl y)) = some f.method.cls) (hts : ∀ w ∈ lw_all, w.before args s = true) (hno : zNo s)
    (hobj : ∀ k, cell.vm ≠ .statics k) (hX : s.vm.findClass (zCN (1000 + kd)) = some cX) (hcls : cell.cls = cX) (hself : kd ∈ [1, 2, 3, 4] → s.vm.assignable cX cX = true) :
    ∀ (xs : List ExceptionTableEntry) (hl : List (Nat × Nat × Nat × Nat)) (S : State), s.WarmedH S.vm → S.heap[a]? = some cell → zhB y (xs.map zh4) hl = true → findH f.pc kd hl = some h →
    nxb (jmp y h) h = true ∧ ∃ vm', s.WarmedH vm' ∧ ∀ (Q : Handler → Pre) (E : CtlPost) (dd : Bool) (acts : List Action), wp (findHandler.go f a xs) Q E e dd acts S ↔ Q (.found h) dd acts (S.setVm vm')
  | [], [], _, _, _, _, g => by cases g
  | [], _ :: _, _, _, _, hb, _ => by cases hb
  | _ :: _, [], _, _, _, hb, _ => by cases hb
  | x :: xs, (b1, b2, b3, b4) :: q, S, hW, hcell, hb, g => by
    simp only [List.map_cons, zhB, Bool.and_eq_true, Bool.not_eq_true'] at hb
    obtain ⟨⟨⟨⟨⟨⟨⟨h1, h2⟩, h3⟩, h4⟩, h5⟩, h6⟩, h7⟩, h8⟩ := hb
    have e1 : x.startPc = b1 := beqN h1
    have e2 : x.endPc = b2 := beqN h2
    have e3 : x.handlerPc = b3 := beqN h3
    have h4 := memL_ok _ h4
    have h5 := zCL_ok _ (mem3_ok _ h5)
    have e6 : x.catchType ≠ 0 := fun z => by
      have : Nat.beq x.catchType 0 = false := h6
      rw [z] at this
      cases this
    have hcv : covers x f.pc = (Nat.ble b1 f.pc && Nat.blt f.pc b2) := by rw [zcov, e1, e2]
    by_cases hc : covers x f.pc = true
    · rw [hc] at hcv
      obtain ⟨cT, hT, hlk⟩ := Cond.classLink_spec hown (hts _ h5) e.platform hpl
      obtain ⟨dk, _, _, kt, hd, _, _, _, _, hkt, _, hopen⟩ := hlk.here
      obtain ⟨kX, hkX, -⟩ := Vm.findClass_spec hX
      obtain ⟨kX', hkX', -⟩ := hW.alike.2.2 _ _ hkX
      obtain ⟨kt', hkt', -⟩ := hW.alike.2.2 _ _ hkt
      have hW2 : s.WarmedH (S.vm.noted f.method.cls x.catchType (.cls cT)) := hW.noted hd hopen (State.rightAt_cls hlk)
      have hrow := fun Q E dd acts => zrow (Q := Q) (E := E) (e := e) (dd := dd) (acts := acts) (t := xs) hc e6 (hW.classLinks hlk) hcell hobj ⟨kX', by rw [hcls]; exact hkX'⟩ ⟨kt', hkt'⟩
      unfold findH at g
      rw [← hcv, Bool.true_and] at g
      split at g
      · rename_i hk
        obtain rfl := beqN hk
        obtain rfl := Option.some.inj g
        have hTX : cT = cX := Option.some.inj (hT.symm.trans hX)
        subst hTX
        refine ⟨h7, _, hW2, fun Q E dd acts => ?_⟩
        rw [hrow, hW.alike.assignable, hcls, if_pos (hself h4), e3]
      · rename_i hk
        have hk4 : ¬ b4 = kd := fun z => by
          rw [z, Nat.beq_refl] at hk
          cases hk
        obtain ⟨g1, vm', g2, g3⟩ := zsearch hpl hown hts hno hobj hX hcls hself xs q (S.setVm (S.vm.noted f.method.cls x.catchType (.cls cT))) hW2 hcell h8 g
        refine ⟨g1, vm', g2, fun Q E dd acts => ?_⟩
        have hna : s.vm.assignable cX cT = false := by
          by_cases hkd : kd ∈ [1, 2, 3, 4]
          · obtain ⟨ci, cj, u1, u2, u3⟩ := hno kd b4 hkd h4 (fun z => hk4 z.symm)
            cases hX.symm.trans u1
            cases hT.symm.trans u2
            exact u3
          · exfalso
            exact hkd (zfind_kd xs q h8 g)
        rw [hrow, hW.alike.assignable, hcls, hna, if_neg (by decide)]
        exact g3 Q E dd acts
    · have hc2 : covers x f.pc = false := by simpa using hc
      rw [hc2] at hcv
      unfold findH at g
      rw [← hcv, Bool.false_and] at g
      obtain ⟨g1, vm', g2, g3⟩ := zsearch hpl hown hts hno hobj hX hcls hself xs q S hW hcell h8 g
      refine ⟨g1, vm', g2, fun Q E dd acts => ?_⟩
      rw [W.findHandler_go_skip hc2]
      exact g3 Q E dd acts
/-- into the handler; the tables have been noted in -/
theorem zcaughtTo {tb : Tables} {e : Env} {s target : State} {g : JFrame} {c : Code} {below : List Frame} {a : Addr} (h : At s g.method c below) {pc : Nat} {vm' : Vm}
    (hf : ∀ (Q : Handler → Pre) (E : CtlPost) (dd : Bool) (acts : List Action), wp (findHandler g a) Q E e dd acts ((s.setTop g).pushFrame (.throwing a)) ↔ Q (.found pc) dd acts (((s.setTop g).pushFrame (.throwing a)).setVm vm'))
    (hrest : Steps tb e below ((s.setVm vm').setTop { g with pc := pc, stack := [.ref a] }) target) : Steps tb e below ((s.setTop g).pushFrame (.throwing a)) target := by
  obtain ⟨hgo, hw⟩ := h.throwing a
  obtain ⟨g₀, hg⟩ := Option.isSome_iff_exists.mp h.top
  obtain ⟨r, hr⟩ := State.topJava?_eq_some.mp hg
  refine Steps.head hgo hw ?_
  rw [stepThread_throwing (frames_entered h.top _)]
  have hst : (stepThrowing e ((s.setTop g).pushFrame (.throwing a)) a (.java g :: s.frames.tail)).1 = (((s.setTop g).pushFrame (.throwing a)).setVm vm').setFrames (.java { g with pc := pc, stack := [.ref a] } :: s.frames.tail) := by
    simp only [stepThrowing, searchFrame, vmDo]
    generalize hres : Sem.go _ e false [] _ = res
    obtain ⟨as, rfl, -⟩ := Sem.eq_ok_of hres (a := Handler.found pc) (s' := ((s.setTop g).pushFrame (.throwing a)).setVm vm') (acts' := []) (by simp [hf _ _ _ _])
    rfl
  rw [hst]
  have hr' : (s.setVm vm').frames = .java g₀ :: r := hr
  rw [State.setTop_of_frames _ hr'] at hrest
  have hfin : (((s.setTop g).pushFrame (.throwing a)).setVm vm').setFrames (.java { g with pc := pc, stack := [.ref a] } :: s.frames.tail) = (s.setVm vm').setFrames (.java { g with pc := pc, stack := [.ref a] } :: r) := by
    rw [State.pushFrame, State.setTop_of_frames _ hr, hr]
    show ((((s.setFrames _).setFrames _).setVm vm').setFrames _) = _
    rw [State.setFrames_setFrames]
    show (((s.setVm vm').setFrames _).setFrames _) = _
    rw [State.setFrames_setFrames]
    rfl
  rw [hfin]
  exact hrest
section ZP
variable {l : Launch} {D : va_G} {tc : Nat → ClassId} {A : Nat → Prop} {ex : Nat → Nat} {σ0 : mM} {kn : Nat → Nat → Option Int}
variable {d y : Nat} {k : mC} {ls st : List mV} {σ : mM} {Aq : mA} {Bq : mB} {pc : Nat} {C : zC}
variable {p : Program} {e : Env} {R : Room} {s : State} {m : MethodId} {args : Array Value} {below : List Frame} {meth : Method} {c : Code}
theorem zcaught {ad : Nat → Nat} {locs : List Loc} {cells slots : Nat} {C0 S0 : Int} {Qw : State → Prop} {T : State} {lsR : Array Slot} {rest : List Value} {kd h : Nat} {xa : Addr}
    (hy : y ∈ (List.range 462).drop 2) (hc : zCt l D tc A ex σ0 p e s m args meth c y) (X : Stand p l e R s m args below meth c T locs cells slots) (hf : findH pc kd (hnd y) = some h)
    (hz : zRl D tc A ex σ0 kn s ad σ T.heap locs cells slots C0 S0) (ht : zThr s kd xa T) (hlo : zloc ad σ ls lsR) (hle : ls.length = mxL y)
    (go : zGo l D tc A ex σ0 kn y (jmp y h) p e R s m args below meth c ad σ C0 S0 Qw d Aq Bq) (hR : zReal l D tc A ex σ0 kn d y (jmp y h) ls [(4, 0)] σ Aq Bq) :
    ∃ t, Steps p.tables e below ((T.setTop (F0 m pc lsR rest)).pushFrame (.throwing xa)) t ∧ Qw t := by
  obtain ⟨hx, hb, hml, hrt, hlk, hown, hts, hK, hE, hnm, hn1, hn2, hh, -, -, -, hno, hthw, -⟩ := hc
  obtain ⟨cell, cX, t1, t2, t3, t4⟩ := ht
  have hB := zhB_all y hy
  rw [← hh] at hB
  have hpl : e.platform.magicAccessors = ({} : Platform).magicAccessors := by rw [X.admits.platform]
  have hself : kd ∈ [1, 2, 3, 4] → s.vm.assignable cX cX = true := fun _ => va_asg _ _
  obtain ⟨hnx, vm', hW', hfd⟩ := zsearch (e := e) (s := s) (args := args) (y := y) (kd := kd) (h := h) (f := F0 m pc lsR rest) (a := xa) (cell := cell) (cX := cX) hpl hown hts hno (fun z hz => by rw [hz] at t2; cases t2) t3 t4 hself c.exceptionTable.toList (hnd y) ((T.setTop (F0 m pc lsR rest)).pushFrame (.throwing xa)) X.warmed t1 hB hf
  have X' := X.noted hW'
  obtain ⟨i2, k2, e2⟩ := nxb_ok hnx
  obtain ⟨t, u1, u2⟩ := go ls [(4, 0)] σ ad T.heap locs cells slots lsR [.ref xa] hR zLat.rf hz hlo hle ⟨Or.inr ⟨xa, rfl⟩, trivial⟩ h i2 k2 e2 (T.setVm vm') rfl X'
  refine ⟨t, zcaughtTo (g := F0 m pc lsR rest) X.here (fun Q E dd acts => ?_) u1, u2⟩
  rw [W.findHandler_eq (s := (T.setTop (F0 m pc lsR rest)).pushFrame (.throwing xa)) (f := F0 m pc lsR rest) (meth := meth) (code := c) X.method' X.code]
  exact hfd Q E dd acts
end ZP
