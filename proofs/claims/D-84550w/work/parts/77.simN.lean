/-! THE SIMULATION: into a method and out of it -/
set_option maxRecDepth 100000
set_option maxHeartbeats 4000000
theorem zcln : ∀ n ∈ (List.range 462).drop 2, (zyN n).cls = zR (mcl n) ∧ (zyN n).cls ≠ "java/lang/invoke/MethodHandle" ∧ (zyN n).cls ≠ "java/lang/invoke/VarHandle" ∧ plainFor (zyN n) = true := by decide +kernel
theorem zmxL : ∀ n ∈ List.range 462, mxL n ≤ 60 := by decide +kernel
section ZN
variable {l : Launch} {D : va_G} {tc : Nat → ClassId} {A : Nat → Prop} {ex : Nat → Nat} {σ0 : mM} {kn : Nat → Nat → Option Int}
variable {d y : Nat} {k : mC} {ls st : List mV} {σ : mM} {Aq : mA} {Bq : mB} {pc : Nat} {C : zC}
/-- what is known of the callee's frame -/
theorem zCt_call {p : Program} {e : Env} {R : Room} {s : State} {m : MethodId} {args : Array Value} {below : List Frame} {meth : Method} {c : Code} {T : State} {locs : List Loc} {cells slots : Nat} {n : Nat} {mk : MethodId} {methM : Method} {cM : Code} {g : JFrame} {a : Array Value} {H : Heap}
    (hc : zCt l D tc A ex σ0 p e s m args meth c y) (X : Stand p l e R s m args below meth c T locs cells slots) (hH : T.heap = H) (hSS : va_S A s.heap H locs) (hn : n ∈ (List.range 462).drop 2) (hnamed : T.methodNamed? (zyN n) = some mk) (hmeth : T.vm.method? mk = some methM)
    (h1 : cM.code = zcoN n) (h2 : cM.maxLocals = mxL n) (h3 : methM.sig.returnType = zrtN n) (h4 : methM.locks = false) (h5 : cM.exceptionTable.toList.map (fun x => (x.startPc, x.endPc, x.handlerPc, x.catchType)) = zhr n) : zCt l D tc A ex σ0 p e (T.calling g mk a) mk a methM cM n := by
  obtain ⟨hx, hb, hml, hrt, hlk, hown, hts, hK, hE, hnm, hn1, hn2, hxt⟩ := hc
  have hW : s.WarmedH (T.calling g mk a).vm := X.warmed
  refine ⟨hx, h1, h2, h3, h4, ?_, fun w h => pay_in hts lw_self w h a _ hW, va_K.moved hW.alike hK, ?_, ?_, fun w h => ?_, fun w h => ?_, ?_⟩
  · rw [← (zcln n hn).1]
    exact findClass_of_methodNamed (s := T) hnamed
  · have hE2 := zExt_moved hW.alike (zExt_kept hE hSS.1 hSS.2.1)
    have : (T.calling g mk a).heap = H := hH
    rw [this]
    exact hE2
  · exact (name_of_methodNamed (s := T) hnamed hmeth).1
  · obtain ⟨t, -, rfl⟩ := List.mem_map.mp h
    exact va_Nw.warmF hW (hn1 _ h)
  · obtain ⟨t, -, rfl⟩ := List.mem_map.mp h
    exact va_Nw.warmM hW (hn2 _ h)
  · refine zXt_moved hW (by rw [show (T.calling g mk a).heap = H from hH]; exact hSS.1) (fun q h1 h2 => ?_) h5 hxt
    rw [show (T.calling g mk a).heap = H from hH]
    exact hSS.2.1 q h1 h2
theorem zcall_ok {P : zP} {n : Nat} {as : List mV} {A' : mA} {B' : mB} (h : zcall (zcal P) d y n as σ A' B') : (argL as).length ≤ mxL n ∧ ∃ d', d' + htm n + 1 ≤ d + htm y ∧ P d' n (jmp n 0) (entL n as) [] σ A' B' := by
  unfold zcall at h
  obtain ⟨h1, h⟩ := noN_ok h
  refine ⟨h1, ?_⟩
  split at h
  · rename_i q
    have := Nat.le_of_ble_eq_true q
    exact ⟨d, by omega, h⟩
  · split at h
    · rename_i q
      have := beqN q
      split at h
      · exact h.elim
      · rename_i d' _
        exact ⟨d', by omega, h⟩
    · exact h.elim
theorem zcats {ad : Nat → Nat} {σ : mM} : ∀ {st : List mV} {q : List Value}, zst ad σ st q → (q.map fun v => v.category).sum ≤ 2 * st.length
  | [], [], _ => by simp
  | _ :: st, w :: q, h => by
    have := zcats h.2
    have hc := lv_cat w
    simp only [List.map_cons, List.sum_cons, List.length_cons]
    omega
  | [], _ :: _, h => h.elim
  | _ :: _, [], h => h.elim
/-- a callee's run, from the state in which it is entered -/
theorem zin_call {p : Program} {e : Env} {R : Room} {s : State} {m : MethodId} {args : Array Value} {below : List Frame} {meth : Method} {c : Code} {T : State} {ad : Nat → Nat} {H : Heap} {locs : List Loc} {cells slots : Nat} {C0 S0 : Int} {Qw : State → Prop} {n d' : Nat} {mk : MethodId} {methM : Method} {cM : Code} {lsR : Array Slot} {rest : List Value} {av : List Value} {as st2 : List mV} {ig : Instr} {A' : mA} {B' : mB}
    (hc : zCt l D tc A ex σ0 p e s m args meth c y) (hr : zRoom d y R) (hC : C0 ≤ R.cells) (hS : S0 ≤ R.slots) (hz : zRl D tc A ex σ0 kn s ad σ H locs cells slots C0 S0) (X : Stand p l e R s m args below meth c T locs cells slots) (hH : T.heap = H) (hls : lsR.size = mxL y) (hdg : decode (zcoN y) pc = .ok (ig, 3))
    (hn : n ∈ (List.range 462).drop 2) (hnamed : T.methodNamed? (zyN n) = some mk) (hmeth : T.vm.method? mk = some methM) (hcode : methM.code = some cM) (h1 : cM.code = zcoN n) (h2 : cM.maxLocals = mxL n) (h3 : methM.sig.returnType = zrtN n) (h4 : methM.locks = false) (h5 : cM.exceptionTable.toList.map (fun x => (x.startPc, x.endPc, x.handlerPc, x.catchType)) = zhr n)
    (hst : zst ad σ st2 rest) (hst2 : st2.length ≤ 12) (hav : zst ad σ as av) (hal : (argL as).length ≤ mxL n) (hd' : d' + htm n + 1 ≤ d + htm y) (hR : zReal l D tc A ex σ0 kn d' n (jmp n 0) (entL n as) [] σ A' B') (hj : ∃ (i : Instr) (k' : mC), jmp n 0 = (0, i) :: k')
    (hret : ∀ (σ' : mM) (ad' : Nat → Nat) (H' : Heap) (L : List Loc) (kk nn : Nat) (v : Int) (o : Option Value), A' v σ' → zOut (zrtN n) v (.returned o) → zLat ad σ ad' σ' → zRl D tc A ex σ0 kn s ad' σ' H' (locs ++ L) (cells + kk) (slots + nn) C0 S0 → W p l e R s m args below meth c H' (locs ++ L) (cells + kk) (slots + nn) Qw (F0 m (pc + 3) lsR (o.toList ++ rest)))
    (hthr : ∀ (σ' : mM) (ad' : Nat → Nat) (T' : State) (L : List Loc) (kk nn : Nat) (kd : Nat) (xa : Addr), B' kd σ' → zThr s kd xa T' → zLat ad σ ad' σ' → zRl D tc A ex σ0 kn s ad' σ' T'.heap (locs ++ L) (cells + kk) (slots + nn) C0 S0 → Stand p l e R s m args below meth c T' (locs ++ L) (cells + kk) (slots + nn) → ∃ t, Steps p.tables e below ((T'.setTop (F0 m pc lsR rest)).pushFrame (.throwing xa)) t ∧ Qw t) :
    ∃ t, (∀ acts, Steps p.tables e below (doInvoke e (T.setTop (F0 m pc lsR rest)) acts mk av.toArray).1 t) ∧ Qw t := by
  obtain ⟨hbb, hx0⟩ : c.code = zcoN y ∧ c.maxLocals = mxL y := ⟨hc.2.1, hc.2.2.1⟩
  have hmx := zmxL n (List.mem_of_mem_drop hn)
  have hcat := zcats hst
  have hpl : T.plainMethod mk := State.plainMethod.of_named (zcln n hn).2.2.2 hnamed hmeth
  have hc2 : (cells : Int) + σ 0 2 = C0 := hz.2.2.1
  have hs2 : (slots : Int) + σ 0 3 = S0 := hz.2.2.2
  let R' : Room := { frames := R.frames - 1, cells := R.cells - cells, slots := R.slots - slots, locals := R.locals - 120 }
  have hr1 := hr.1
  have hr2 := hr.2
  have hnn := hz.1.1.2.2
  obtain ⟨Y₀, hin⟩ := X.into (g := F0 m pc lsR rest) rfl (hls.trans hx0.symm) (by rw [hbb]; exact hdg) av.toArray (R' := R') hmeth hcode h4 hpl (by show R.frames - 1 + 1 ≤ R.frames; omega)
    (by show 2 * 0 + (rest.map fun v => v.category).sum + (cM.maxLocals + 11) + (R.locals - 120) ≤ R.locals; rw [h2]; omega) (by show cells + (R.cells - cells) ≤ R.cells; omega) (by show slots + (R.slots - slots) ≤ R.slots; omega)
  have hct := zCt_call (g := F0 m pc lsR rest) (a := av.toArray) hc X hH hz.2.1 hn hnamed hmeth h1 h2 h3 h4 h5
  obtain ⟨i0, k0, hj0⟩ := hj
  generalize hU : (T.setTop (F0 m pc lsR rest)).pushFrame (.java (entryFrame mk av.toArray cM.maxLocals)) = U at Y₀ hin
  have hUH : U.heap = H := by rw [← hU]; exact hH
  have hsH : (T.calling (F0 m pc lsR rest) mk av.toArray).heap = H := hH
  have hW := hR p e R' (T.calling (F0 m pc lsR rest) mk av.toArray) mk av.toArray (.java (F0 m pc lsR rest) :: below) methM cM hct ⟨by show d' + htm n ≤ R.frames - 1; omega, by show 120 * (d' + htm n) ≤ R.locals - 120; omega⟩
    ad H [] 0 0 _ [] (σ 0 2) (σ 0 3) (by show σ 0 2 ≤ ((R.cells - cells : Nat) : Int); omega) (by show σ 0 3 ≤ ((R.slots - slots : Nat) : Int); omega)
    ⟨hz.1, by rw [hsH]; exact va_S.rf, by simp, by simp⟩ (zentry hav hal) (by unfold entL; rw [padTo_len]) trivial
    (fun t => ∃ t2, Steps p.tables e below t t2 ∧ Qw t2)
    (by
      intro σ' ad' t o v a1 a2 a3 a4 a5
      obtain ⟨b1, b2, b3, b4, L, kk, nn, b5, b6, b7, b8⟩ := a3
      have ho : ∃ o', o = .returned o' := by
        unfold zOut at a2
        split at a2
        · exact ⟨_, a2⟩
        · obtain ⟨x, rfl, -⟩ := a2; exact ⟨_, rfl⟩
        · obtain ⟨x, rfl, -⟩ := a2; exact ⟨_, rfl⟩
      obtain ⟨o', rfl⟩ := ho
      obtain ⟨T', X', hW', hB', ht⟩ := X.outOf (g := F0 m pc lsR rest) rfl (by rw [hbb]; exact hdg) b2 b3 b5
      have hTh : t.heap = T'.heap := by rw [ht]; rfl
      have hrl : zRl D tc A ex σ0 kn s ad' σ' T'.heap (locs ++ L) (cells + kk) (slots + nn) C0 S0 := by
        refine ⟨by rw [← hTh]; exact a5, ⟨?_, ?_, ?_⟩, by push_cast; omega, by push_cast; omega⟩
        · have := b4.1; rw [hsH] at this; rw [← hTh]; exact Nat.le_trans hz.2.1.1 this
        · intro q hq1 hq2
          have := b4.2 q (by rw [hsH]; exact Nat.lt_of_lt_of_le hq1 hz.2.1.1) hq2
          rw [hsH] at this
          rw [← hTh, this]
          exact hz.2.1.2.1 q hq1 hq2
        · intro q hq
          rcases List.mem_append.mp hq with hq | hq
          · exact hz.2.1.2.2 q hq
          · exact b6 q hq
      obtain ⟨t2, c1, c2⟩ := hret σ' ad' T'.heap L kk nn v o' a1 a2 a4 hrl T' rfl X'
      exact ⟨t2, by rw [ht]; exact c1, c2⟩)
    (by
      intro σ' ad' t kd xa a1 a2 a3 a4 a5
      obtain ⟨b1, b2, b3, b4, L, kk, nn, b5, b6, b7, b8⟩ := a3
      obtain ⟨T', X', hW', hB', ht⟩ := X.outOfThrown (g := F0 m pc lsR rest) rfl b2 b3 b5
      have hTh : t.heap = T'.heap := by rw [ht]; exact Stand.throwing_heap _ _ _
      have hrl : zRl D tc A ex σ0 kn s ad' σ' T'.heap (locs ++ L) (cells + kk) (slots + nn) C0 S0 := by
        refine ⟨by rw [← hTh]; exact a5, ⟨?_, ?_, ?_⟩, by push_cast; omega, by push_cast; omega⟩
        · have := b4.1; rw [hsH] at this; rw [← hTh]; exact Nat.le_trans hz.2.1.1 this
        · intro q hq1 hq2
          have := b4.2 q (by rw [hsH]; exact Nat.lt_of_lt_of_le hq1 hz.2.1.1) hq2
          rw [hsH] at this
          rw [← hTh, this]
          exact hz.2.1.2.1 q hq1 hq2
        · intro q hq
          rcases List.mem_append.mp hq with hq | hq
          · exact hz.2.1.2.2 q hq
          · exact b6 q hq
      have hthr2 : zThr s kd xa T' := by
        obtain ⟨cell, cX, z1, z2, z3, z4⟩ := a2
        refine ⟨cell, cX, by rw [← hTh]; exact z1, z2, ?_, z4⟩
        rw [← X.warmed.alike.findClass]
        exact z3
      obtain ⟨t2, c1, c2⟩ := hthr σ' ad' T' L kk nn kd xa a1 hthr2 a4 hrl X'
      exact ⟨t2, by rw [ht]; exact c1, c2⟩)
    0 i0 k0 hj0 (jmp_suf _ _)
  obtain ⟨t, c1, t2, c2, c3⟩ := hW U hUH Y₀
  refine ⟨t2, fun acts => ?_, c3⟩
  rw [hin acts]
  refine Steps.trans (Steps.weaken (mid := [.java (F0 m pc lsR rest)]) ?_) c2
  rw [h2, lg_entry_eq]
  exact c1
end ZN
