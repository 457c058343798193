/-! THE SIMULATION: calls of methods -/
set_option maxRecDepth 100000
set_option maxHeartbeats 4000000
section ZQ
variable {l : Launch} {D : va_G} {tc : Nat → ClassId} {A : Nat → Prop} {ex : Nat → Nat} {σ0 : mM} {kn : Nat → Nat → Option Int}
variable {d y : Nat} {k : mC} {ls st : List mV} {σ : mM} {Aq : mA} {Bq : mB} {pc : Nat} {C : zC}
variable {p : Program} {e : Env} {R : Room} {s : State} {m : MethodId} {args : Array Value} {below : List Frame} {meth : Method} {c : Code}
theorem zthr_ok {ad ad' : Nat → Nat} {σ' : mM} {locs : List Loc} {cells slots : Nat} {C0 S0 : Int} {Qw : State → Prop} {T : State} {lsR : Array Slot} {rest : List Value} {kd : Nat} {xa : Addr}
    (hy : y ∈ (List.range 462).drop 2) (hc : zCt l D tc A ex σ0 p e s m args meth c y) (hr : zRoom d y R) (hC : C0 ≤ R.cells) (hS : S0 ≤ R.slots) (X : Stand p l e R s m args below meth c T locs cells slots)
    (hz : zRl D tc A ex σ0 kn s ad' σ' T.heap locs cells slots C0 S0) (ht : zThr s kd xa T) (hl : zLat ad σ ad' σ') (hlo : zloc ad σ ls lsR) (hle : ls.length = mxL y)
    (qa : ∀ (σ' : mM) (ad' : Nat → Nat) (t : State) (o : Outcome) (v : Int), Aq v σ' → zOut (zrtN y) v o → zEnd A s below C0 S0 σ' o t → zLat ad σ ad' σ' → zHp D tc A ex σ0 kn ad' σ' t.heap → Qw t)
    (qb : ∀ (σ' : mM) (ad' : Nat → Nat) (t : State) (kd : Nat) (xa : Addr), Bq kd σ' → zThr s kd xa t → zEnd A s below C0 S0 σ' (.threw xa) t → zLat ad σ ad' σ' → zHp D tc A ex σ0 kn ad' σ' t.heap → Qw t)
    (hm : match covB pc (hnd y) with
        | false => Bq kd σ'
        | true => match findH pc kd (hnd y) with
          | none => False
          | some h => zReal l D tc A ex σ0 kn d y (jmp y h) ls [(4, 0)] σ' Aq Bq) :
    ∃ t, Steps p.tables e below ((T.setTop (F0 m pc lsR rest)).pushFrame (.throwing xa)) t ∧ Qw t := by
  split at hm
  · rename_i hcv
    have hB := zhB_all y hy
    rw [← hc.2.2.2.2.2.2.2.2.2.2.2.2.1] at hB
    exact zthrow (H := T.heap) hc X (zuncov _ _ hB hcv) hz ht hm (fun σ2 ad2 t kd xa a1 a2 a3 a4 a5 => qb σ2 ad2 t kd xa a1 a2 a3 (hl.tr a4) a5)
  · split at hm
    · exact hm.elim
    · rename_i h hf
      have hlo' := zloc_up hl.1 hl.2 hlo
      refine zcaught hy hc X hf hz ht hlo' hle (zgo_of (jmp_suf _ _) hc hr hC hS (fun σ2 ad2 t o v a1 a2 a3 a4 a5 => qa σ2 ad2 t o v a1 a2 a3 (hl.tr a4) a5) (fun σ2 ad2 t kd xa a1 a2 a3 a4 a5 => qb σ2 ad2 t kd xa a1 a2 a3 (hl.tr a4) a5)) hm
theorem zsgi {q : Nat} (h : zsig q true = true) : zsigP q 1 = true := by
  have h1 := memL_ok _ h
  exact List.all_eq_true.mp zSGi_ok q h1
theorem zsgs {q : Nat} (h : zsig q false = true) : zsigP q 0 = true := by
  have h1 := memL_ok _ h
  exact List.all_eq_true.mp zSGs_ok q h1
theorem zsg_len {q i : Nat} {sg : MethodDescriptor} (h : zsigP q i = true) (hp : parseMethodDescriptor (zyN (q / 64)).desc = some sg) : sg.parameters.length + i = q / 4 % 16 := by
  unfold zsigP at h
  rw [Bool.and_eq_true] at h
  have h1 := h.1
  rw [hp] at h1
  exact beqN h1
/-- what is returned, on the stack -/
theorem zret {ad : Nat → Nat} {q i : Nat} {v : Int} {o : Option Value} {st : List mV} {rest : List Value} (h : zsigP q i = true) (ho : zOut (zrtN (q / 64)) v (.returned o)) (hst : zst ad σ st rest) : zst ad σ (retV (q % 4) v st) (o.toList ++ rest) := by
  unfold zsigP at h
  rw [Bool.and_eq_true] at h
  have h2 := h.2
  unfold zOut at ho
  split at h2
  · rename_i e0
    have e1 : q % 4 = 0 := beqN h2
    rw [e0] at ho
    dsimp only at ho
    cases ho
    rw [e1]
    exact hst
  · rename_i e0
    have e1 : q % 4 = 2 := beqN h2
    rw [e0] at ho
    dsimp only at ho
    obtain ⟨x, hx, rfl⟩ := ho
    cases hx
    rw [e1]
    exact ⟨⟨x, rfl, rfl⟩, hst⟩
  · rename_i e0
    have e1 : q % 4 = 1 := beqN h2
    rw [e0] at ho
    dsimp only at ho
    obtain ⟨x, hx, rfl⟩ := ho
    cases hx
    rw [e1]
    exact ⟨⟨x, rfl, rfl⟩, hst⟩
  · rename_i e0
    have e1 : q % 4 = 1 := beqN h2
    rw [e0] at ho
    dsimp only at ho
    obtain ⟨x, hx, rfl⟩ := ho
    cases hx
    rw [e1]
    exact ⟨⟨x, rfl, rfl⟩, hst⟩
  · rename_i e0
    have e1 : q % 4 = 1 := beqN h2
    rw [e0] at ho
    dsimp only at ho
    obtain ⟨x, hx, rfl⟩ := ho
    cases hx
    rw [e1]
    exact ⟨⟨x, rfl, rfl⟩, hst⟩
  · rename_i e0
    have e1 : q % 4 = 1 := beqN h2
    rw [e0] at ho
    dsimp only at ho
    obtain ⟨x, hx, rfl⟩ := ho
    cases hx
    rw [e1]
    exact ⟨⟨x, rfl, rfl⟩, hst⟩
  · cases h2
theorem zc_invokevirtual {q : Nat} (hy : y ∈ (List.range 462).drop 2) (hs : (pc, .invokevirtual q) :: k <:+ cd y) (ho : zokI y pc (.invokevirtual q) k = true) (h : sem kn (zcal (zReal l D tc A ex σ0 kn)) d y pc (.invokevirtual q) k ls st σ Aq Bq (fun k ls st σ => zReal l D tc A ex σ0 kn d y k ls st σ Aq Bq)) : zReal l D tc A ex σ0 kn d y ((pc, .invokevirtual q) :: k) ls st σ Aq Bq := by
  intro p e R s m args below meth c hc hr ad H locs cells slots lsR stR C0 S0 hC hS hz hlo hle hst Qw qa qb pc' i' k'' he _
  cases he
  have go := zgo_of (k := k) ((List.suffix_cons _ _).trans hs) hc hr hC hS qa qb
  obtain ⟨hx, hb, hml, hrt, hlk, hown, hts, hK, hE, hnm, hn1, hn2⟩ := id hc
  unfold zokI at ho
  dsimp only at ho
  split at ho
  · rename_i j n hd
    simp only [Bool.and_eq_true] at ho
    obtain ⟨⟨⟨⟨⟨hn, hq⟩, hli⟩, him⟩, hse⟩, hsg⟩ := ho
    obtain rfl := beqN hn
    obtain ⟨i2, k2, e2⟩ := nxb_ok hq
    have hli := zML_ok _ (mem3_ok _ hli)
    have himm := memL_ok _ him
    have hse := zSE_ok _ (memL_ok _ hse)
    have hsg := zsgi hsg
    unfold sem at h
    dsimp only at h
    split at h
    · rename_i a as hrev
      obtain ⟨hk, h⟩ := chk_ok h
      have hk : (shp a.toNat).1 = 100 + mcl (q / 64) := beqN hk
      obtain ⟨hl12, h⟩ := noN_ok h
      obtain ⟨hge, h⟩ := geN_ok h
      obtain ⟨hal, d', hd', hP⟩ := zcall_ok h
      have ht := zst_rev (zst_take (q / 4 % 16) hst)
      rw [hrev] at ht
      generalize hrv : (stR.take (q / 4 % 16)).reverse = rv at ht
      have ht0 := ht
      obtain ⟨w, avs, rfl, hw, hav⟩ := zst_c ht
      obtain ⟨rfl, ha0, ha1⟩ := zref hw (by show ¬ (shp a.toNat).1 = 0; omega)
      have hlenS := zst_len hst
      have hlen : avs.length + 1 = q / 4 % 16 := by
        have h1 := congrArg List.length hrv
        rw [List.length_reverse, List.length_take, List.length_cons] at h1
        omega
      have hstk : stR = avs.reverse ++ .ref (ad a.toNat) :: stR.drop (q / 4 % 16) := by
        have h1 := congrArg List.reverse hrv
        rw [List.reverse_reverse, List.reverse_cons] at h1
        conv => lhs; rw [← List.take_append_drop (q / 4 % 16) stR, h1]
        simp
      have hdrop := zst_drop (q / 4 % 16) hst
      obtain ⟨mk, methM, cM, g1, g2, g3, g4, g5, g6, g7, g8, g9⟩ := zmeth hts (zcod_im _ himm)
      obtain ⟨cell, c1, c2, c3⟩ := zobj hc hz ha0 ha1 hk
      have hrg := zrg_im _ himm
      obtain ⟨hcl1, hcl2, hcl3, hcl4⟩ := zcln _ hrg
      obtain ⟨mk', methM', r1, r2, hstM, habM⟩ := Cond.instanceMethod_spec (hts _ (zIM_ok _ himm))
      cases g1.symm.trans r1
      cases g2.symm.trans r2
      obtain ⟨c5, r5, m5, q1, q2, q3, q4, kP, hkP, hkPi⟩ := Cond.selects_spec (hts _ hse)
      rw [hcl1] at q1
      cases c3.symm.trans q1
      cases (State.methodFound?_of_named g1 ⟨hcl2, hcl3⟩).symm.trans q2
      cases g1.symm.trans q3
      intro T hT X
      have hselP : selectMethod e.platform s.vm cell.cls mk = .method mk := by rw [Launch.admits_selectMethod X.admits]; exact q4
      obtain ⟨vm₁, X₁, hstep₁⟩ := X.invokevirtual hx hown (hts _ hli) g1 g2 hstM hkP hkPi ⟨hcl2, hcl3⟩ (a := ad a.toNat) (cell := cell) (by rw [hT]; exact c1)
        (fun z h => by rw [h] at c2; cases c2) hselP g2 habM hkP hkPi (g := F0 m pc lsR stR) rfl (argsL := avs) (rest := stR.drop (q / 4 % 16)) (by have := zsg_len hsg g9; omega) hstk (by rw [hb]; exact hd)
      obtain ⟨t, h1, h2⟩ := zin_call (Qw := Qw) (lsR := lsR) (T := T.setVm vm₁) (mk := mk) (av := .ref (ad a.toNat) :: avs) (rest := stR.drop (q / 4 % 16)) (as := (2, a) :: as) (st2 := st.drop (q / 4 % 16)) hc hr hC hS hz X₁ hT (hlo.1.trans hle) hd hrg (X₁.named g1) (by rw [X₁.warmed.alike.method?]; exact g2) g3 g4 g5 g7 g8 g6
        hdrop (by rw [List.length_drop]; omega) ht0 hal hd' hP (zhead _ hrg)
        (fun σ' ad' H' L kk nn v o a1 a2 a3 a4 => go ls _ σ' ad' H' _ _ _ lsR _ a1 a3 a4 (zloc_up a3.1 a3.2 hlo) hle (zret hsg a2 (zst_up a3.1 a3.2 hdrop)) _ _ _ e2)
        (fun σ' ad' T' L kk nn kd xa a1 a2 a3 a4 a5 => zthr_ok hy hc hr hC hS a5 a4 a2 a3 hlo hle qa qb a1)
      exact ⟨t, hstep₁ t h1, h2⟩
    · exact h.elim
  · cases ho
theorem zc_invokestatic {q : Nat} (hy : y ∈ (List.range 462).drop 2) (hq0 : ¬ q / 64 = 0) (hs : (pc, .invokestatic q) :: k <:+ cd y) (ho : zokI y pc (.invokestatic q) k = true) (h : sem kn (zcal (zReal l D tc A ex σ0 kn)) d y pc (.invokestatic q) k ls st σ Aq Bq (fun k ls st σ => zReal l D tc A ex σ0 kn d y k ls st σ Aq Bq)) : zReal l D tc A ex σ0 kn d y ((pc, .invokestatic q) :: k) ls st σ Aq Bq := by
  intro p e R s m args below meth c hc hr ad H locs cells slots lsR stR C0 S0 hC hS hz hlo hle hst Qw qa qb pc' i' k'' he _
  cases he
  have go := zgo_of (k := k) ((List.suffix_cons _ _).trans hs) hc hr hC hS qa qb
  obtain ⟨hx, hb, hml, hrt, hlk, hown, hts, hK, hE, hnm, hn1, hn2⟩ := id hc
  unfold zokI at ho
  dsimp only at ho
  split at ho
  · rename_i j n hd
    simp only [Bool.and_eq_true, Bool.or_eq_true] at ho
    obtain ⟨⟨⟨⟨hn, hq⟩, hli⟩, hist⟩, hsg⟩ := ho
    obtain rfl := beqN hn
    obtain ⟨i2, k2, e2⟩ := nxb_ok hq
    have hsg := zsgs hsg
    have himm : q / 64 ∈ zST := by
      rcases hist with z | z
      · exact absurd (beqN z) hq0
      · exact memL_ok _ z
    unfold sem at h
    dsimp only at h
    split at h
    · rename_i e0; exact absurd e0 hq0
    · obtain ⟨hl12, h⟩ := noN_ok h
      obtain ⟨hge, h⟩ := geN_ok h
      obtain ⟨hal, d', hd', hP⟩ := zcall_ok h
      have ht := zst_rev (zst_take (q / 4 % 16) hst)
      generalize hrv : (stR.take (q / 4 % 16)).reverse = avs at ht
      have hlenS := zst_len hst
      have hlen : avs.length = q / 4 % 16 := by
        have h1 := congrArg List.length hrv
        rw [List.length_reverse, List.length_take] at h1
        omega
      have hstk : stR = avs.reverse ++ stR.drop (q / 4 % 16) := by
        have h1 := congrArg List.reverse hrv
        rw [List.reverse_reverse] at h1
        conv => lhs; rw [← List.take_append_drop (q / 4 % 16) stR, h1]
      have hdrop := zst_drop (q / 4 % 16) hst
      obtain ⟨mk, methM, cM, g1, g2, g3, g4, g5, g6, g7, g8, g9⟩ := zmeth hts (zcod_st _ himm)
      have hrg := zrg_st _ himm
      obtain ⟨hcl1, hcl2, hcl3, hcl4⟩ := zcln _ hrg
      have hstatic : methM.isStatic = true := Cond.static_spec g1 g2 (hts _ (zST_ok _ himm))
      obtain ⟨kP, hkP, -⟩ := className_of_methodNamed g1
      have hinitP : kP.init = .initialized := Cond.initialized_spec (findClass_of_methodNamed g1) hkP (hts _ (zIN_ok _ (zinit _ himm)))
      intro T hT X
      have hcome : ∃ vm', Stand p l e R s m args below meth c (T.setVm vm') locs cells slots ∧ ∀ target, (∀ acts, Steps p.tables e below (doInvoke e ((T.setVm vm').setTop (F0 m pc lsR (stR.drop (q / 4 % 16)))) acts mk avs.toArray).1 target) → Steps p.tables e below (T.setTop (F0 m pc lsR stR)) target := by
        rcases hli with z | z
        · exact X.invokestatic hx hown (hts _ (zML_ok _ (mem3_ok _ z))) g1 g2 hstatic hkP hinitP ⟨hcl2, hcl3⟩ (g := F0 m pc lsR stR) rfl (argsL := avs) (rest := stR.drop (q / 4 % 16)) (by have := zsg_len hsg g9; omega) hstk (by rw [hb]; exact hd)
        · have hnw : va_Nw (Cond.methodLinkNest (zR (mcl y)) j (zyN (q / 64)) RX1) s := hn2.1 _ (List.mem_map.mpr ⟨_, mem3_ok _ z, rfl⟩)
          exact X.invokestaticNest hx hown (show (Cond.methodLinkNest (zR (mcl y)) j (zyN (q / 64)) RX1).before args s = true from hnw) g1 g2 hstatic hkP hinitP ⟨hcl2, hcl3⟩ (g := F0 m pc lsR stR) rfl (argsL := avs) (rest := stR.drop (q / 4 % 16)) (by have := zsg_len hsg g9; omega) hstk (by rw [hb]; exact hd)
      obtain ⟨vm₁, X₁, hstep₁⟩ := hcome
      obtain ⟨t, h1, h2⟩ := zin_call (Qw := Qw) (lsR := lsR) (T := T.setVm vm₁) (mk := mk) (av := avs) (rest := stR.drop (q / 4 % 16)) (st2 := st.drop (q / 4 % 16)) hc hr hC hS hz X₁ hT (hlo.1.trans hle) hd hrg (X₁.named g1) (by rw [X₁.warmed.alike.method?]; exact g2) g3 g4 g5 g7 g8 g6
        hdrop (by rw [List.length_drop]; omega) ht hal hd' hP (zhead _ hrg)
        (fun σ' ad' H' L kk nn v o a1 a2 a3 a4 => go ls _ σ' ad' H' _ _ _ lsR _ a1 a3 a4 (zloc_up a3.1 a3.2 hlo) hle (zret hsg a2 (zst_up a3.1 a3.2 hdrop)) _ _ _ e2)
        (fun σ' ad' T' L kk nn kd xa a1 a2 a3 a4 a5 => zthr_ok hy hc hr hC hS a5 a4 a2 a3 hlo hle qa qb a1)
      exact ⟨t, hstep₁ t h1, h2⟩
  · cases ho
end ZQ
