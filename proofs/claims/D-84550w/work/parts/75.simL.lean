/-! THE SIMULATION: returns -/
set_option maxRecDepth 100000
set_option maxHeartbeats 4000000
section ZL
variable {l : Launch} {D : va_G} {tc : Nat → ClassId} {A : Nat → Prop} {ex : Nat → Nat} {σ0 : mM} {kn : Nat → Nat → Option Int}
variable {d y : Nat} {k : mC} {ls st : List mV} {σ : mM} {Aq : mA} {Bq : mB} {pc : Nat} {C : zC}
theorem zw_iret {p : Program} {e : Env} {R : Room} {s : State} {m : MethodId} {args : Array Value} {below : List Frame} {meth : Method} {c : Code} {H : Heap} {locs : List Loc} {cells slots : Nat} {Qw : State → Prop} {cc : ByteArray} {v : Int32} {ty : FieldType} {lsR : Array Slot} {rest : List Value} (hexec : p.tables.exec = Jvm.exec) (hb : c.code = cc) (hr : meth.sig.returnType = some ty) (hn : narrow ty (.int v) = .int v) (hlocks : meth.locks = false) (hdg : decode cc pc = .ok (.ireturn, 1))
    (hq : ∀ t : State, t.heap = H → t.status = .running → Ended t below (.returned (some (.int v))) → s.WarmedH t.vm → s.sameButNew ({ t with vm := s.vm } : State) locs cells slots → Qw t) : W p l e R s m args below meth c H locs cells slots Qw (F0 m pc lsR (.int v :: rest)) := by
  intro T hT X
  obtain ⟨fs, hret, hrun, hended, hW, hframe⟩ := X.leave (v := some (.int v)) (fun h => by rw [hr] at h; cases h)
  have hmeth' : T.vm.method? m = some meth := X.method'
  refine ⟨T.setFrames fs, ?_, hq _ hT hrun hended hW hframe⟩
  jvm_step X.here [X.here.top, hexec, hb, hdg, hmeth', hr, hn]
  (try refine ⟨rfl, ?_⟩); (try refine ⟨rfl, ?_⟩)
  first | (intro acts; rw [hret _ acts rfl rfl rfl]) | rw [hret _ _ rfl rfl rfl]
  exact Steps.refl _
theorem zw_lret {p : Program} {e : Env} {R : Room} {s : State} {m : MethodId} {args : Array Value} {below : List Frame} {meth : Method} {c : Code} {H : Heap} {locs : List Loc} {cells slots : Nat} {Qw : State → Prop} {cc : ByteArray} {v : Int64} {lsR : Array Slot} {rest : List Value} (hexec : p.tables.exec = Jvm.exec) (hb : c.code = cc) (hr : meth.sig.returnType = some .long) (hlocks : meth.locks = false) (hdg : decode cc pc = .ok (.lreturn, 1))
    (hq : ∀ t : State, t.heap = H → t.status = .running → Ended t below (.returned (some (.long v))) → s.WarmedH t.vm → s.sameButNew ({ t with vm := s.vm } : State) locs cells slots → Qw t) : W p l e R s m args below meth c H locs cells slots Qw (F0 m pc lsR (.long v :: rest)) := by
  intro T hT X
  obtain ⟨fs, hret, hrun, hended, hW, hframe⟩ := X.leave (v := some (.long v)) (fun h => by rw [hr] at h; cases h)
  have hmeth' : T.vm.method? m = some meth := X.method'
  refine ⟨T.setFrames fs, ?_, hq _ hT hrun hended hW hframe⟩
  jvm_step X.here [X.here.top, hexec, hb, hdg, hmeth', hr, narrow]
  (try refine ⟨rfl, ?_⟩); (try refine ⟨rfl, ?_⟩)
  first | (intro acts; rw [hret _ acts rfl rfl rfl]) | rw [hret _ _ rfl rfl rfl]
  exact Steps.refl _
theorem zw_vret {p : Program} {e : Env} {R : Room} {s : State} {m : MethodId} {args : Array Value} {below : List Frame} {meth : Method} {c : Code} {H : Heap} {locs : List Loc} {cells slots : Nat} {Qw : State → Prop} {cc : ByteArray} {lsR : Array Slot} {rest : List Value} (hexec : p.tables.exec = Jvm.exec) (hb : c.code = cc) (hr : meth.sig.returnType = none) (hlocks : meth.locks = false) (hdg : decode cc pc = .ok (.return_, 1))
    (hq : ∀ t : State, t.heap = H → t.status = .running → Ended t below (.returned none) → s.WarmedH t.vm → s.sameButNew ({ t with vm := s.vm } : State) locs cells slots → Qw t) : W p l e R s m args below meth c H locs cells slots Qw (F0 m pc lsR rest) := by
  intro T hT X
  obtain ⟨fs, hret, hrun, hended, hW, hframe⟩ := X.leave (v := none) (fun _ => rfl)
  have hmeth' : T.vm.method? m = some meth := X.method'
  refine ⟨T.setFrames fs, ?_, hq _ hT hrun hended hW hframe⟩
  jvm_step X.here [X.here.top, hexec, hb, hdg, hmeth', hr]
  (try refine ⟨rfl, ?_⟩); (try refine ⟨rfl, ?_⟩)
  first | (intro acts; rw [hret _ acts rfl rfl rfl]) | rw [hret _ _ rfl rfl rfl]
  exact Steps.refl _
theorem zEnd_of {s t : State} {below : List Frame} {ad : Nat → Nat} {H : Heap} {locs : List Loc} {cells slots : Nat} {C0 S0 : Int} {o : Outcome} (hz : zRl D tc A ex σ0 kn s ad σ H locs cells slots C0 S0) (h1 : t.heap = H) (h2 : t.status = .running) (h3 : Ended t below o) (h4 : s.WarmedH t.vm) (h5 : s.sameButNew ({ t with vm := s.vm } : State) locs cells slots) : zEnd A s below C0 S0 σ o t :=
  ⟨h2, h3, h4, hz.2.1.F h1, locs, cells, slots, h5, hz.2.1.2.2, hz.2.2.1, hz.2.2.2⟩
/-- the value of an int answer, by the method's type -/
theorem zc_iret0 {p : Program} {e : Env} {R : Room} {s : State} {m : MethodId} {args : Array Value} {below : List Frame} {meth : Method} {c : Code} {ad : Nat → Nat} {H : Heap} {locs : List Loc} {cells slots : Nat} {Qw : State → Prop} {v : Int} {x : Int32} {ty : FieldType} {lsR : Array Slot} {rest : List Value} {C0 S0 : Int} (hc : zCt l D tc A ex σ0 p e s m args meth c y) (hz : zRl D tc A ex σ0 kn s ad σ H locs cells slots C0 S0) (hd : decode (zcoN y) pc = .ok (.ireturn, 1)) (hrt : zrtN y = some ty) (hty : ¬ ty = .long) (hn : narrow ty (.int x) = .int x) (ex1 : x.toInt = v) (h : Aq v σ)
    (qa : ∀ (σ' : mM) (ad' : Nat → Nat) (t : State) (o : Outcome) (v : Int), Aq v σ' → zOut (zrtN y) v o → zEnd A s below C0 S0 σ' o t → zLat ad σ ad' σ' → zHp D tc A ex σ0 kn ad' σ' t.heap → Qw t) : W p l e R s m args below meth c H locs cells slots Qw (F0 m pc lsR (.int x :: rest)) := by
  obtain ⟨hx, hb, hml, hr, hlk, hrest⟩ := hc
  refine zw_iret hx hb (hr.trans hrt) hn hlk hd (fun t h1 h2 h3 h4 h5 => qa σ ad t _ v h ?_ (zEnd_of hz h1 h2 h3 h4 h5) zLat.rf (by rw [h1]; exact hz.1))
  rw [hrt]
  unfold zOut
  split
  · rename_i q; cases q
  · rename_i q; exact absurd (Option.some.inj q) hty
  · exact ⟨x, rfl, ex1⟩
theorem zc_ireturn (hs : (pc, .ireturn) :: k <:+ cd y) (ho : zokI y pc .ireturn k = true) (h : sem kn C d y pc .ireturn k ls st σ Aq Bq (fun k ls st σ => zReal l D tc A ex σ0 kn d y k ls st σ Aq Bq)) : zReal l D tc A ex σ0 kn d y ((pc, .ireturn) :: k) ls st σ Aq Bq := by
  intro p e R s m args below meth c hc hr ad H locs cells slots lsR stR C0 S0 hC hS hz hlo hle hst Qw qa qb pc' i' k'' he _
  cases he
  have ho : (zdec y pc .ireturn 1 && decide (zrtN y = some .int)) = true := ho
  rw [Bool.and_eq_true, decide_eq_true_eq] at ho
  unfold sem at h
  dsimp only at h
  split at h
  · rename_i v r
    obtain ⟨x1, q1, rfl, ex1, hst⟩ := zst_i hst
    exact zc_iret0 hc hz (zdec_ok ho.1) ho.2 (fun q => by cases q) rfl ex1 h qa
  · exact h.elim
theorem zc_freturn (hs : (pc, .freturn) :: k <:+ cd y) (ho : zokI y pc .freturn k = true) (h : sem kn C d y pc .freturn k ls st σ Aq Bq (fun k ls st σ => zReal l D tc A ex σ0 kn d y k ls st σ Aq Bq)) : zReal l D tc A ex σ0 kn d y ((pc, .freturn) :: k) ls st σ Aq Bq := by
  intro p e R s m args below meth c hc hr ad H locs cells slots lsR stR C0 S0 hC hS hz hlo hle hst Qw qa qb pc' i' k'' he _
  cases he
  have ho : (zdec y pc .ireturn 1 && decide (zrtN y = some .boolean)) = true := ho
  rw [Bool.and_eq_true, decide_eq_true_eq] at ho
  unfold sem at h
  dsimp only at h
  split at h
  · rename_i v r
    obtain ⟨x1, q1, rfl, ex1, hst⟩ := zst_i hst
    obtain ⟨hv, h⟩ := bo_ok h
    refine zc_iret0 hc hz (zdec_ok ho.1) ho.2 (fun q => by cases q) ?_ ex1 h qa
    have hx : x1 = 0 ∨ x1 = 1 := hv.imp (fun q => Int32.toInt_inj.mp (by rw [ex1, q]; rfl)) (fun q => Int32.toInt_inj.mp (by rw [ex1, q]; rfl))
    rcases hx with rfl | rfl <;> rfl
  · exact h.elim
theorem zc_dreturn (hs : (pc, .dreturn) :: k <:+ cd y) (ho : zokI y pc .dreturn k = true) (h : sem kn C d y pc .dreturn k ls st σ Aq Bq (fun k ls st σ => zReal l D tc A ex σ0 kn d y k ls st σ Aq Bq)) : zReal l D tc A ex σ0 kn d y ((pc, .dreturn) :: k) ls st σ Aq Bq := by
  intro p e R s m args below meth c hc hr ad H locs cells slots lsR stR C0 S0 hC hS hz hlo hle hst Qw qa qb pc' i' k'' he _
  cases he
  have ho : (zdec y pc .ireturn 1 && decide (zrtN y = some .byte)) = true := ho
  rw [Bool.and_eq_true, decide_eq_true_eq] at ho
  unfold sem at h
  dsimp only at h
  split at h
  · rename_i v r
    obtain ⟨x1, q1, rfl, ex1, hst⟩ := zst_i hst
    obtain ⟨hv, h⟩ := h
    refine zc_iret0 hc hz (zdec_ok ho.1) ho.2 (fun q => by cases q) ?_ ex1 h qa
    rw [narrow_byte]
    congr 1
    apply Int32.toInt_inj.mp
    rw [w8_i32, ex1, w8_id hv]
  · exact h.elim
theorem zc_areturn (hs : (pc, .areturn) :: k <:+ cd y) (ho : zokI y pc .areturn k = true) (h : sem kn C d y pc .areturn k ls st σ Aq Bq (fun k ls st σ => zReal l D tc A ex σ0 kn d y k ls st σ Aq Bq)) : zReal l D tc A ex σ0 kn d y ((pc, .areturn) :: k) ls st σ Aq Bq := by
  intro p e R s m args below meth c hc hr ad H locs cells slots lsR stR C0 S0 hC hS hz hlo hle hst Qw qa qb pc' i' k'' he _
  cases he
  have ho : (zdec y pc .ireturn 1 && decide (zrtN y = some .char)) = true := ho
  rw [Bool.and_eq_true, decide_eq_true_eq] at ho
  unfold sem at h
  dsimp only at h
  split at h
  · rename_i v r
    obtain ⟨x1, q1, rfl, ex1, hst⟩ := zst_i hst
    obtain ⟨⟨hv1, hv2⟩, h⟩ := h
    refine zc_iret0 hc hz (zdec_ok ho.1) ho.2 (fun q => by cases q) ?_ ex1 h qa
    obtain ⟨j, hj, rfl⟩ := nI_of (x := x1) (fun q => by have := Int32.lt_iff_toInt_lt.mp q; simp at this; omega)
    rw [nI_toInt hj] at ex1
    exact (pk_charN (by omega)).1
  · exact h.elim
theorem zc_lreturn (hs : (pc, .lreturn) :: k <:+ cd y) (ho : zokI y pc .lreturn k = true) (h : sem kn C d y pc .lreturn k ls st σ Aq Bq (fun k ls st σ => zReal l D tc A ex σ0 kn d y k ls st σ Aq Bq)) : zReal l D tc A ex σ0 kn d y ((pc, .lreturn) :: k) ls st σ Aq Bq := by
  intro p e R s m args below meth c hc hr ad H locs cells slots lsR stR C0 S0 hC hS hz hlo hle hst Qw qa qb pc' i' k'' he _
  cases he
  have ho : (zdec y pc .lreturn 1 && decide (zrtN y = some .long)) = true := ho
  rw [Bool.and_eq_true, decide_eq_true_eq] at ho
  unfold sem at h
  dsimp only at h
  split at h
  · rename_i v r
    obtain ⟨x1, q1, rfl, ex1, hst⟩ := zst_l hst
    obtain ⟨hx, hb, hml, hrt, hlk, hrest⟩ := hc
    refine zw_lret hx hb (hrt.trans ho.2) hlk (zdec_ok ho.1) (fun t h1 h2 h3 h4 h5 => qa σ ad t _ v h ?_ (zEnd_of hz h1 h2 h3 h4 h5) zLat.rf (by rw [h1]; exact hz.1))
    rw [ho.2]
    exact ⟨x1, rfl, ex1⟩
  · exact h.elim
theorem zc_return (hs : (pc, .return_) :: k <:+ cd y) (ho : zokI y pc .return_ k = true) (h : sem kn C d y pc .return_ k ls st σ Aq Bq (fun k ls st σ => zReal l D tc A ex σ0 kn d y k ls st σ Aq Bq)) : zReal l D tc A ex σ0 kn d y ((pc, .return_) :: k) ls st σ Aq Bq := by
  intro p e R s m args below meth c hc hr ad H locs cells slots lsR stR C0 S0 hC hS hz hlo hle hst Qw qa qb pc' i' k'' he _
  cases he
  have ho : (zdec y pc .return_ 1 && decide (zrtN y = none)) = true := ho
  rw [Bool.and_eq_true, decide_eq_true_eq] at ho
  unfold sem at h
  dsimp only at h
  obtain ⟨hx, hb, hml, hrt, hlk, hrest⟩ := hc
  refine zw_vret hx hb (hrt.trans ho.2) hlk (zdec_ok ho.1) (fun t h1 h2 h3 h4 h5 => qa σ ad t _ 0 h ?_ (zEnd_of hz h1 h2 h3 h4 h5) zLat.rf (by rw [h1]; exact hz.1))
  rw [ho.2]
  rfl
end ZL
