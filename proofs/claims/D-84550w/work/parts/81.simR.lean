/-! THE SIMULATION: constructors are called; arraycopy -/
set_option maxRecDepth 100000
set_option maxHeartbeats 4000000
theorem zMN_1 : ∀ t ∈ zMN, ¬ t.2.2 = 1 := by decide +kernel
theorem zhtm : ∀ y ∈ (List.range 462).drop 2, 6 ≤ htm y := by decide +kernel
section ZR
variable {l : Launch} {D : va_G} {tc : Nat → ClassId} {A : Nat → Prop} {ex : Nat → Nat} {σ0 : mM} {kn : Nat → Nat → Option Int}
variable {d y : Nat} {k : mC} {ls st : List mV} {σ : mM} {Aq : mA} {Bq : mB} {pc : Nat} {C : zC}
theorem zc_invokespecial {q : Nat} (hy : y ∈ (List.range 462).drop 2) (hs : (pc, .invokespecial q) :: k <:+ cd y) (ho : zokI y pc (.invokespecial q) k = true) (h : sem kn (zcal (zReal l D tc A ex σ0 kn)) d y pc (.invokespecial q) k ls st σ Aq Bq (fun k ls st σ => zReal l D tc A ex σ0 kn d y k ls st σ Aq Bq)) : zReal l D tc A ex σ0 kn d y ((pc, .invokespecial q) :: k) ls st σ Aq Bq := by
  intro p e R s m args below meth c hc hr ad H locs cells slots lsR stR C0 S0 hC hS hz hlo hle hst Qw qa qb pc' i' k'' he _
  cases he
  have go := zgo_of (k := k) ((List.suffix_cons _ _).trans hs) hc hr hC hS qa qb
  obtain ⟨hx, hb, hml, hrt, hlk, hown, hts, hK, hE, hnm, hn1, hn2, hxt⟩ := id hc
  unfold zokI at ho
  dsimp only at ho
  split at ho
  · rename_i j n hd
    simp only [Bool.and_eq_true, Bool.or_eq_true, decide_eq_true_eq] at ho
    obtain ⟨⟨⟨⟨hn, hq⟩, hli⟩, him⟩, hsg⟩ := ho
    obtain rfl := beqN hn
    obtain ⟨i2, k2, e2⟩ := nxb_ok hq
    have hsg := zsgi hsg
    unfold sem at h
    dsimp only at h
    split at h
    · rename_i a as hrev
      have ht := zst_rev (zst_take (q / 4 % 16) hst)
      rw [hrev] at ht
      generalize hrv : (stR.take (q / 4 % 16)).reverse = rv at ht
      have ht0 := ht
      obtain ⟨w, avs, rfl, hw, hav⟩ := zst_c ht
      have hlenS := zst_len hst
      have hstk : stR = avs.reverse ++ w :: stR.drop (q / 4 % 16) := by
        have h1 := congrArg List.reverse hrv
        rw [List.reverse_reverse, List.reverse_cons] at h1
        conv => lhs; rw [← List.take_append_drop (q / 4 % 16) stR, h1]
        simp
      have hdrop := zst_drop (q / 4 % 16) hst
      have hcats := zcats hdrop
      have hr1 := hr.1
      have hr2 := hr.2
      have hht := zhtm y hy
      split at h
      · rename_i hq1
        obtain ⟨hk, h⟩ := chk_ok h
        rw [Bool.and_eq_true] at hk
        obtain ⟨hk, hq41⟩ := hk
        have hq41 : q / 4 % 16 = 1 := beqN hq41
        have hk0 : 1 ≤ shK a := Nat.le_of_ble_eq_true hk
        obtain ⟨hl13, h⟩ := noN_ok h
        obtain ⟨rfl, ha0, ha1⟩ := zref hw (by omega)
        have hav0 : avs = [] := by
          have h1 := congrArg List.length hrv
          rw [List.length_reverse, List.length_take, List.length_cons] at h1
          exact List.eq_nil_of_length_eq_zero (by omega)
        subst hav0
        have hli : Cond.methodLink (zR (mcl y)) j (zyN 1) ∈ lw_all := by
          rw [hq1] at hli
          rcases hli with z | z
          · exact zML_ok _ (mem3_ok _ z)
          · exact absurd rfl (zMN_1 _ (mem3_ok _ z))
        intro T hT X
        have hpl : e.platform.magicAccessors = ({} : Platform).magicAccessors := by rw [X.admits.platform]
        obtain ⟨mk, methM, cM, kP, vm₁, hnamed, hmethM, hcodeM, hbytes, hlocalsM, hlkM, hkP, hkn, hW₁, hstep₁⟩ := Steps.initColdArgs (e := e) X.here hx X.warmed hpl hown (t := zyN 1) rfl (by decide) (hts _ hli) (hts _ q280) (hts _ q281) (f := F0 m pc lsR stR) rfl (a := ad a.toNat) (argsL := []) (rest := stR.drop (q / 4 % 16)) (fun sig hsig => by
            have h1 : parseMethodDescriptor (zyN 1).desc = some sig := hsig
            have h2 := zsg_len hsg (by rw [hq1]; exact h1)
            simp only [List.length_nil]
            omega) hstk (by rw [hb]; exact hd)
        have X₁ := X.noted hW₁
        obtain ⟨t, u1, u2⟩ := go ls _ σ ad H locs cells slots lsR _ h zLat.rf hz hlo hle hdrop _ _ _ e2 (T.setVm vm₁) hT X₁
        obtain ⟨k', hk', he⟩ := hW₁.alike.2.2 _ _ hkP
        refine ⟨t, hstep₁ t (fun acts => ?_), u2⟩
        refine X₁.objectInit hx (g := F0 m pc lsR (stR.drop (q / 4 % 16))) rfl (hlo.1.trans (hle.trans hml.symm)) acts hk' (by rw [he]; exact hkn) (by rw [X₁.warmed.alike.method?]; exact hmethM) hcodeM (hbytes.trans (by decide +kernel)) hlkM (by omega) ?_ (by rw [hb]; exact hd) u1
        have hdl : (st.drop (q / 4 % 16)).length ≤ 13 := by rw [List.length_drop]; omega
        show 2 * 0 + ((stR.drop (q / 4 % 16)).map fun v => v.category).sum + (cM.maxLocals + 11) ≤ R.locals
        rw [hlocalsM]
        omega
      · rename_i hq1
        obtain ⟨hk, h⟩ := chk_ok h
        have hk : (shp a.toNat).1 = 100 + mcl (q / 64) := beqN hk
        obtain ⟨hl12, h⟩ := noN_ok h
        obtain ⟨hge, h⟩ := geN_ok h
        obtain ⟨hal, d', hd', hP⟩ := zcall_ok h
        obtain ⟨rfl, ha0, ha1⟩ := zref hw (by show ¬ (shp a.toNat).1 = 0; omega)
        have hlen : avs.length + 1 = q / 4 % 16 := by
          have h1 := congrArg List.length hrv
          rw [List.length_reverse, List.length_take, List.length_cons] at h1
          omega
        obtain ⟨himm, hin⟩ : q / 64 ∈ zIM ∧ (zyN (q / 64)).name = "<init>" := by
          rcases him with z | ⟨z1, z2⟩
          · exact absurd (beqN z) hq1
          · exact ⟨memL_ok _ z1, z2⟩
        obtain ⟨hrn, hco⟩ := zini _ himm hin
        have hcw := hts _ (zCO_ok _ (memL_ok _ hco))
        rw [hrn] at hcw
        obtain ⟨mk, methM, cM, g1, g2, g3, g4, g5, g6, g7, g8, g9⟩ := zmeth hts (zcod_im _ himm)
        have hrg := zrg_im _ himm
        obtain ⟨hcl1, hcl2, hcl3, hcl4⟩ := zcln _ hrg
        have hpar : ∀ sig, parseMethodDescriptor (zyN (q / 64)).desc = some sig → avs.length = sig.parameters.length := fun sig hsig => by
          have h2 := zsg_len hsg hsig
          omega
        intro T hT X
        have hpl : e.platform.magicAccessors = ({} : Platform).magicAccessors := by rw [X.admits.platform]
        have hcome : ∃ vm₁, s.WarmedH vm₁ ∧ ∀ target, (∀ acts, Steps p.tables e below (doInvoke e ((T.setVm vm₁).setTop (F0 m pc lsR (stR.drop (q / 4 % 16)))) acts mk (.ref (ad a.toNat) :: avs).toArray).1 target) → Steps p.tables e below (T.setTop (F0 m pc lsR stR)) target := by
          rcases hli with z | z
          · obtain ⟨mk', methM', cM', kP, vm₁, hnamed, -, -, -, -, -, -, -, hW₁, hstep₁⟩ := Steps.initColdArgs (e := e) X.here hx X.warmed hpl hown hin ⟨hcl2, hcl3⟩ (hts _ (zML_ok _ (mem3_ok _ z))) (hts _ (zIM_ok _ himm)) hcw (f := F0 m pc lsR stR) rfl (a := ad a.toNat) (argsL := avs) (rest := stR.drop (q / 4 % 16)) hpar hstk (by rw [hb]; exact hd)
            cases g1.symm.trans hnamed
            exact ⟨vm₁, hW₁, hstep₁⟩
          · have hnw : va_Nw (Cond.methodLinkNest (zR (mcl y)) j (zyN (q / 64)) RX1) s := hn2 _ (List.mem_map.mpr ⟨_, mem3_ok _ z, rfl⟩)
            obtain ⟨mk', methM', cM', kP, vm₁, hnamed, -, -, -, -, -, -, -, hW₁, hstep₁⟩ := Steps.initColdArgsNest (e := e) X.here hx X.warmed hpl hown hin ⟨hcl2, hcl3⟩ (args := #[]) hnw (show (Cond.instanceMethod (zyN (q / 64))).before #[] s = true from hts _ (zIM_ok _ himm)) (show (Cond.code (zyN (q / 64)) (zcoN (q / 64)) (mxL (q / 64)) none).before #[] s = true from hcw) (f := F0 m pc lsR stR) rfl (a := ad a.toNat) (argsL := avs) (rest := stR.drop (q / 4 % 16)) hpar hstk (by rw [hb]; exact hd)
            cases g1.symm.trans hnamed
            exact ⟨vm₁, hW₁, hstep₁⟩
        obtain ⟨vm₁, hW₁, hstep₁⟩ := hcome
        have X₁ := X.noted hW₁
        obtain ⟨t, h1, h2⟩ := zin_call (Qw := Qw) (lsR := lsR) (T := T.setVm vm₁) (mk := mk) (av := .ref (ad a.toNat) :: avs) (rest := stR.drop (q / 4 % 16)) (as := (2, a) :: as) (st2 := st.drop (q / 4 % 16)) hc hr hC hS hz X₁ hT (hlo.1.trans hle) hd hrg (X₁.named g1) (by rw [X₁.warmed.alike.method?]; exact g2) g3 g4 g5 g7 g8 g6
          hdrop (by rw [List.length_drop]; omega) ht0 hal hd' hP (zhead _ hrg)
          (fun σ' ad' H' L kk nn v o a1 a2 a3 a4 => go ls _ σ' ad' H' _ _ _ lsR _ a1 a3 a4 (zloc_up a3.1 a3.2 hlo) hle (zret hsg a2 (zst_up a3.1 a3.2 hdrop)) _ _ _ e2)
          (fun σ' ad' T' L kk nn kd xa a1 a2 a3 a4 a5 => zthr_ok hy hc hr hC hS a5 a4 a2 a3 hlo hle qa qb a1)
        exact ⟨t, hstep₁ t h1, h2⟩
    · exact h.elim
  · cases ho
end ZR
