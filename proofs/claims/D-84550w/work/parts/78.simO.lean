/-! THE SIMULATION: what the tables say of methods; objects; what is thrown -/
set_option maxRecDepth 100000
set_option maxHeartbeats 4000000
def zmemH (n : Nat) : List (Nat × List (Nat × Nat × Nat × Nat)) → Bool
  | [] => false
  | q :: r => (Nat.beq q.1 n && decide (q.2 = zhr n)) || zmemH n r
theorem zmemH_ok {n : Nat} : ∀ (l : List (Nat × List (Nat × Nat × Nat × Nat))), zmemH n l = true → (n, zhr n) ∈ l
  | [], h => by cases h
  | q :: r, h => by
    simp only [zmemH, Bool.or_eq_true, Bool.and_eq_true, decide_eq_true_eq] at h
    rcases h with ⟨h1, h2⟩ | h
    · have : q = (n, zhr n) := Prod.ext (Nat.eq_of_beq_eq_true h1) h2
      exact this ▸ List.mem_cons_self
    · exact List.mem_cons_of_mem _ (zmemH_ok r h)
def zcod (n : Nat) : Bool := (memL n zCO && (match zhr n with
  | [] => true
  | _ => false)) || zmemH n zCW
theorem zcod_im : ∀ n ∈ zIM, zcod n = true := by decide +kernel
theorem zcod_st : ∀ n ∈ zST, zcod n = true := by decide +kernel
theorem zrg_im : ∀ n ∈ zIM, n ∈ (List.range 462).drop 2 := by decide +kernel
theorem zrg_st : ∀ n ∈ zST, n ∈ (List.range 462).drop 2 := by decide +kernel
theorem zini : ∀ n ∈ zIM, (zyN n).name = "<init>" → zrtN n = none ∧ memL n zCO = true := by decide +kernel
theorem zhead : ∀ n ∈ (List.range 462).drop 2, ∃ (i : Instr) (k' : mC), jmp n 0 = (0, i) :: k' := by
  have h : ∀ n ∈ (List.range 462).drop 2, nxb (jmp n 0) 0 = true := by decide +kernel
  exact fun n hn => nxb_ok (h n hn)
theorem zinit : ∀ n ∈ zST, n ∈ zIN := by decide +kernel
section ZO
variable {l : Launch} {D : va_G} {tc : Nat → ClassId} {A : Nat → Prop} {ex : Nat → Nat} {σ0 : mM} {kn : Nat → Nat → Option Int}
variable {d y : Nat} {k : mC} {ls st : List mV} {σ : mM} {Aq : mA} {Bq : mB} {pc : Nat} {C : zC}
variable {p : Program} {e : Env} {R : Room} {s : State} {m : MethodId} {args : Array Value} {below : List Frame} {meth : Method} {c : Code}
theorem zmeth {n : Nat} (hts : ∀ w ∈ lw_all, w.before args s = true) (hn : zcod n = true) : ∃ (mk : MethodId) (methM : Method) (cM : Code), s.methodNamed? (zyN n) = some mk ∧ s.vm.method? mk = some methM ∧ methM.code = some cM ∧ cM.code = zcoN n ∧ cM.maxLocals = mxL n ∧
    cM.exceptionTable.toList.map (fun x => (x.startPc, x.endPc, x.handlerPc, x.catchType)) = zhr n ∧ methM.sig.returnType = zrtN n ∧ methM.locks = false ∧ parseMethodDescriptor (zyN n).desc = some methM.sig := by
  unfold zcod at hn
  rw [Bool.or_eq_true] at hn
  rcases hn with hn | hn
  · rw [Bool.and_eq_true] at hn
    obtain ⟨h1, h2⟩ := hn
    have hw := hts _ (zCO_ok _ (memL_ok _ h1))
    obtain ⟨mk, hnm⟩ := Cond.code_named hw
    obtain ⟨meth, cM, g1, g2, g3, g4, g5, g6, g7, g8⟩ := Cond.code_spec hnm hw
    refine ⟨mk, meth, cM, hnm, g1, g2, g3, g4, ?_, g5, g6, g8⟩
    have h3 : zhr n = [] := by
      split at h2
      · assumption
      · cases h2
    rw [h3]
    have h4 : cM.exceptionTable.toList = [] := by
      have := Array.isEmpty_iff.mp g7
      rw [this]
    rw [h4]
    rfl
  · have hw := hts _ (zCW_ok _ (zmemH_ok _ hn))
    obtain ⟨mk, meth, cM, g0, g1, g2, g3, g4, g5, g6, g7, g8⟩ := Cond.codeWith_spec hw
    exact ⟨mk, meth, cM, g0, g1, g2, g3, g4, g5, g6, g7, g8⟩
/-- the object behind a reference -/
theorem zobj {ad : Nat → Nat} {H : Heap} {locs : List Loc} {cells slots : Nat} {C0 S0 : Int} {a : Int} {ci : Nat} (hc : zCt l D tc A ex σ0 p e s m args meth c y) (hz : zRl D tc A ex σ0 kn s ad σ H locs cells slots C0 S0) (h0 : 0 < a) (h1 : a < σ 0 0) (hk : (shp a.toNat).1 = 100 + ci) :
    ∃ cell : Cell, H[ad a.toNat]? = some cell ∧ cell.vm.isStatics = false ∧ s.vm.findClass (zR ci) = some cell.cls := by
  obtain ⟨hx, hb, hml, hrt, hlk, hown, hts, hK, hE, hnm, hn1, hn2⟩ := hc
  obtain ⟨⟨⟨hbl, hbh⟩, hex, hP, hD, hok, hxm, hkn⟩, hSS, hcc, hss⟩ := hz
  have hlt : a.toNat < 372 := by omega
  rcases Nat.lt_or_ge a.toNat 156 with qa1 | qa1
  · obtain ⟨hp1, hp2, hp3⟩ := zx8 _ qa1 (by omega)
    have hci : ci = 18 := by omega
    subst hci
    obtain ⟨jj, hj1, hj2⟩ : ∃ j, j < 77 ∧ a.toNat = 2 + 2 * j := ⟨(a.toNat - 2) / 2, by omega, by omega⟩
    obtain ⟨-, hstr, -⟩ := hE
    have hO := (hstr jj hj1).1
    rw [← hj2] at hO
    obtain ⟨cell, g1, g2, g3, -⟩ := hO.kept hSS.2.1
    rw [hex _ qa1]
    exact ⟨cell, g1, g2, g3⟩
  · obtain ⟨hl18, r, hr1, hr2⟩ := zxo _ hlt qa1 (by omega)
    have hci : (shp a.toNat).1 - 100 = ci := by omega
    rw [hci] at hl18 hr1
    have hg := zW_get (tc := tc) (ad := ad) (σ := σ) qa1 (by omega)
    have hEq : zE tc ad σ a.toNat = .inr (ci, zfs ad σ a.toNat ci ((shp a.toNat).2 - 1)) := by
      unfold zE
      rw [hk]
      split <;> first | omega | skip
      have : 100 + ci - 100 = ci := by omega
      simp only [this]
    rw [hEq] at hg
    obtain ⟨r', hr', cell, g1, g2, g3, -⟩ := hP _ _ hg
    dsimp only at hr' g1 g2
    cases hr1.symm.trans hr'
    have hone : 1 ≤ ci := by
      rcases Nat.lt_or_ge ci 1 with z | z
      · have : ∀ a, a < 372 → 156 ≤ a → ¬ (shp a).1 = 100 := by decide +kernel
        exact absurd (by omega) (this _ hlt qa1)
      · exact z
    refine ⟨cell, g1, by rw [g3]; rfl, ?_⟩
    rw [zR_cls _ _ hone hr1, g2]
    exact (hK.1 ci r hr1).2.1
/-- a thrown object, at the caller's place: out, or to the handler -/
theorem zthrow {ad : Nat → Nat} {H : Heap} {locs : List Loc} {cells slots : Nat} {C0 S0 : Int} {Qw : State → Prop} {T : State} {lsR : Array Slot} {rest : List Value} {kd : Nat} {xa : Addr}
    (hc : zCt l D tc A ex σ0 p e s m args meth c y) (X : Stand p l e R s m args below meth c T locs cells slots) (hout : ∀ x ∈ c.exceptionTable.toList, covers x pc = false)
    (hz : zRl D tc A ex σ0 kn s ad σ T.heap locs cells slots C0 S0) (ht : zThr s kd xa T) (hB : Bq kd σ)
    (qb : ∀ (σ' : mM) (ad' : Nat → Nat) (t : State) (kd : Nat) (xa : Addr), Bq kd σ' → zThr s kd xa t → zEnd A s below C0 S0 σ' (.threw xa) t → zLat ad σ ad' σ' → zHp D tc A ex σ0 kn ad' σ' t.heap → Qw t) :
    ∃ t, Steps p.tables e below ((T.setTop (F0 m pc lsR rest)).pushFrame (.throwing xa)) t ∧ Qw t := by
  obtain ⟨hx, hb, hml, hrt, hlk, hown, hts, hK, hE, hnm, hn1, hn2, hh, -⟩ := hc
  obtain ⟨h1, h2, h3, h4, h5⟩ := X.leaveThrown xa (g := F0 m pc lsR rest) rfl rfl rfl hout hlk
  refine ⟨_, h1, qb σ ad _ kd xa hB ?_ ⟨h2, h3, h4, ?_, locs, cells, slots, h5, hz.2.1.2.2, hz.2.2.1, hz.2.2.2⟩ zLat.rf hz.1⟩
  · exact ht
  · exact ⟨hz.2.1.1, hz.2.1.2.1⟩
end ZO
