/-! THE SIMULATION: getfield -/
set_option maxRecDepth 100000
set_option maxHeartbeats 4000000
def zfldI (i : Instr) : Bool := match i with
  | .getfield q => zfld q || Nat.beq q 18434 || Nat.beq q 18436
  | .putfield q => zfld q
  | _ => true
theorem zfldT : cdT.all (fun l => l.all (fun c => c.all (fun p => zfldI p.2))) = true := by decide +kernel
theorem zfld_all {y pc : Nat} {i : Instr} {k : mC} (h : (pc, i) :: k <:+ cd y) : zfldI i = true := by
  have hm : (pc, i) ∈ cd y := h.subset List.mem_cons_self
  have ht := zfldT
  rw [List.all_eq_true] at ht
  unfold cd at hm
  rw [List.getD_eq_getElem?_getD] at hm
  cases h1 : (cdT.getD (y / 32) [])[y % 32]? with
  | none => rw [h1] at hm; cases hm
  | some c =>
    rw [h1] at hm
    have hc := List.mem_of_getElem? h1
    rw [List.getD_eq_getElem?_getD] at hc
    cases h2 : cdT[y / 32]? with
    | none => rw [h2] at hc; simp at hc
    | some l =>
      rw [h2] at hc
      have h3 := ht l (List.mem_of_getElem? h2)
      rw [List.all_eq_true] at h3
      have h4 := h3 c hc
      rw [List.all_eq_true] at h4
      exact h4 (pc, i) hm
section ZH
variable {l : Launch} {D : va_G} {tc : Nat → ClassId} {A : Nat → Prop} {ex : Nat → Nat} {σ0 : mM} {kn : Nat → Nat → Option Int}
variable {d y : Nat} {k : mC} {ls st : List mV} {σ : mM} {Aq : mA} {Bq : mB} {pc : Nat} {C : zC}
theorem rdk_F {a q : Nat} {F : Int → Prop} (hkn : ∀ (a p : Nat) (v : Int), kn a p = some v → σ a (Int.ofNat p) = v) (h : rdk kn σ a q F) : F (σ a (Int.ofNat q)) := by
  unfold rdk at h
  split at h
  · rename_i v hv
    rw [hkn _ _ _ hv]
    exact h
  · exact h
theorem zc_getfield {q : Nat} (hs : (pc, .getfield q) :: k <:+ cd y) (ho : zokI y pc (.getfield q) k = true) (h : sem kn C d y pc (.getfield q) k ls st σ Aq Bq (fun k ls st σ => zReal l D tc A ex σ0 kn d y k ls st σ Aq Bq)) : zReal l D tc A ex σ0 kn d y ((pc, .getfield q) :: k) ls st σ Aq Bq := by
  have hfl := zfld_all hs
  intro p e R s m args below meth c hc hr ad H locs cells slots lsR stR C0 S0 hC hS hz hlo hle hst Qw qa qb pc' i' k'' he _
  cases he
  have go := zgo_of (k := k) ((List.suffix_cons _ _).trans hs) hc hr hC hS qa qb
  obtain ⟨hx, hb, hml, hrt, hlk, hown, hts, hK, hE, hnm, hn1, hn2⟩ := hc
  obtain ⟨⟨⟨hbl, hbh⟩, hex, hP, hD, hok, hxm, hkn⟩, hSS, hcc, hss⟩ := id hz
  unfold zokI at ho
  dsimp only at ho
  rw [Bool.and_eq_true] at ho
  obtain ⟨-, ho⟩ := ho
  split at ho
  · rename_i j n hd
    simp only [Bool.and_eq_true] at ho
    obtain ⟨⟨hn, hq⟩, hlinks⟩ := ho
    obtain rfl := beqN hn
    obtain ⟨i2, k2, e2⟩ := nxb_ok hq
    unfold sem at h
    dsimp only at h
    split at h
    · rename_i a r
      obtain ⟨w, q2, rfl, hw, hst2⟩ := zst_c hst
      obtain ⟨hk, h⟩ := chk_ok h
      have hk : (shp a.toNat).1 = 100 + q / 1024 := beqN hk
      obtain ⟨rfl, ha0, ha1⟩ := zref hw (by show ¬ (shp a.toNat).1 = 0; omega)
      have h := rdk_F hkn h
      have hlt : a.toNat < 372 := by omega
      unfold zfldI at hfl
      dsimp only at hfl
      rw [Bool.or_eq_true, Bool.or_eq_true] at hfl
      rcases Nat.lt_or_ge a.toNat 156 with qa1 | qa1
      · obtain ⟨hp1, hp2, hp3⟩ := zx8 _ qa1 (by omega)
        have hq18 : q / 1024 = 18 := by omega
        obtain ⟨jj, hj1, hj2⟩ : ∃ j, j < 77 ∧ a.toNat = 2 + 2 * j := ⟨(a.toNat - 2) / 2, by omega, by omega⟩
        obtain ⟨-, hstr, -⟩ := hE
        obtain ⟨-, hF1, hF2, -, hv1, hv2, -⟩ := hstr jj hj1
        rw [← hj2] at hF1 hF2 hv1 hv2
        have had : ad a.toNat = ex a.toNat := hex _ qa1
        rw [had]
        have hnF : ∀ t, t ∈ zFL → ¬ t.2.2.1 = 18 := by
          have : zFL.all (fun t => !Nat.beq t.2.2.1 18) = true := by decide +kernel
          intro t ht e0
          have := List.all_eq_true.mp this t ht
          rw [e0] at this
          cases this
        have hnN : ∀ t, t ∈ zFN → ¬ t.2.2.1 = 18 := by
          have : zFN.all (fun t => !Nat.beq t.2.2.1 18) = true := by decide +kernel
          intro t ht e0
          have := List.all_eq_true.mp this t ht
          rw [e0] at this
          cases this
        rw [Bool.or_eq_true, Bool.or_eq_true] at hlinks
        rcases hlinks with (hl | hl) | hl
        · exact absurd hq18 (hnF _ (mem4_ok _ hl))
        · exact absurd hq18 (hnN _ (mem4_ok _ hl))
        · simp only [Bool.and_eq_true, Bool.or_eq_true] at hl
          obtain ⟨⟨hm18, -⟩, hl⟩ := hl
          have hm18 : mcl y = 18 := beqN hm18
          have hown2 : s.vm.findClass "java/lang/String" = some m.cls := by rw [hm18] at hown; exact hown
          rcases hl with ⟨hj, hp⟩ | ⟨hj, hp⟩
          · obtain rfl := beqN hj
            have hp : q / 4 % 256 = 0 := beqN hp
            have hq4 : q = 18434 := by
              rcases hfl with (hf | hf) | hf
              · unfold zfld at hf
                rw [hq18] at hf
                cases hf
              · exact beqN hf
              · have := beqN hf; omega
            subst hq4
            refine vk_getf hx hb hF2 hSS hown2 (hts _ q3688) (fun _ h9 => h9) hd (go _ _ _ _ _ _ _ _ _ _ h zLat.rf hz hlo hle (zpv ?_ hst2) _ _ _ e2)
            show zval ad σ (2, σ a.toNat 0) _
            rw [hxm _ _ (by omega) qa1, hv1]
            refine Or.inr ⟨⟨by omega, by omega⟩, ?_⟩
            rw [hex _ (by omega)]
            rfl
          · obtain rfl := beqN hj
            have hp : q / 4 % 256 = 1 := beqN hp
            have hq4 : q = 18436 := by
              rcases hfl with (hf | hf) | hf
              · unfold zfld at hf
                rw [hq18] at hf
                cases hf
              · have := beqN hf; omega
              · exact beqN hf
            subst hq4
            refine vk_getf hx hb hF1 hSS hown2 (hts _ q3689) (fun _ h9 => h9) hd (go _ _ _ _ _ _ _ _ _ _ h zLat.rf hz hlo hle (zpv ?_ hst2) _ _ _ e2)
            show zval ad σ (0, σ a.toNat 1) _
            rw [hxm _ _ (by omega) qa1, hv2]
            exact ⟨0, rfl, rfl⟩
      · obtain ⟨hl18, r, hr1, hr2⟩ := zxo _ hlt qa1 (by omega)
        have hci : (shp a.toNat).1 - 100 = q / 1024 := by omega
        rw [hci] at hl18 hr1
        have hzf : zfld q = true := by
          rcases hfl with (hf | hf) | hf
          · exact hf
          · have := beqN hf; subst this; exact absurd hl18 (by decide)
          · have := beqN hf; subst this; exact absurd hl18 (by decide)
        unfold zfld at hzf
        rw [hr1] at hzf
        dsimp only at hzf
        rw [Bool.and_eq_true] at hzf
        have hpos : q / 4 % 256 < r.2.2 := Nat.le_of_ble_eq_true hzf.1
        have hkd : zfk (zTy (q / 1024) (q / 4 % 256)) = q % 4 := beqN hzf.2
        have hg := zW_get (tc := tc) (ad := ad) (σ := σ) qa1 (by omega)
        have hEq : zE tc ad σ a.toNat = .inr (q / 1024, zfs ad σ a.toNat (q / 1024) ((shp a.toNat).2 - 1)) := by
          unfold zE
          rw [hk]
          split <;> first | omega | skip
          have : 100 + q / 1024 - 100 = q / 1024 := by omega
          simp only [this]
        rw [hEq] at hg
        have hfv := zfs_get (σ := σ) (ad := ad) (a := a.toNat) (ci := q / 1024) (n := (shp a.toNat).2 - 1) (j := q / 4 % 256) (by omega)
        have hov := zok_obj (by omega) (hok _ qa1 (by omega)) (show q / 4 % 256 < (shp a.toNat).2 - 1 by omega)
        rw [hci] at hov
        have hval := zfv_val (ad := ad) hov
        rw [hkd] at hval
        have hgd : zcls.getD (q / 1024) (RX1, TX1, 17) = r := by rw [List.getD_eq_getElem?_getD, hr1]; rfl
        have hkk : W p l e R s m args below meth c H locs cells slots Qw (F0 m (pc + 3) lsR (zfv ad (zfk (zTy (q / 1024) (q / 4 % 256))) (σ a.toNat (Int.ofNat (q / 4 % 256))) :: q2)) := by
          refine go _ _ _ _ _ _ _ _ _ _ h zLat.rf hz hlo hle (zpv ?_ hst2) _ _ _ e2
          rw [hkd]
          exact hval
        have hone : 1 ≤ q / 1024 := by
          rcases Nat.lt_or_ge (q / 1024) 1 with z | z
          · have : ∀ a, a < 372 → 156 ≤ a → ¬ (shp a).1 = 100 := by decide +kernel
            exact absurd (by omega) (this _ hlt qa1)
          · exact z
        have hsame : ∀ x, s.fieldFound? (r.2.1 (q / 4 % 256)).1 (r.2.1 (q / 4 % 256)).2.1 (r.2.1 (q / 4 % 256)).2.2.1 = some x → s.fieldFound? (zR (q / 1024)) (r.2.1 (q / 4 % 256)).2.1 (r.2.1 (q / 4 % 256)).2.2.1 = some x := by
          intro x hx9
          rw [zR_cls _ _ hone hr1, ← zown _ _ hr1 _ hpos]
          exact hx9
        rw [Bool.or_eq_true, Bool.or_eq_true] at hlinks
        rcases hlinks with (hl | hl) | hl
        · have hlw := hts _ (zFL_ok _ (mem4_ok _ hl))
          dsimp only at hlw
          rw [hgd] at hlw
          exact va_get (C := r.1) (T := r.2.1) (N := r.2.2) hx hb hts (zin _ _ hr1) hown hK hP (a.toNat - 156) hg hr1 (q / 4 % 256) hpos hlw hsame hfv hd hkk
        · have hmem : Cond.fieldLinkNest (zR (mcl y)) j (zR (q / 1024)) ((zcls.getD (q / 1024) (RX1, TX1, 17)).2.1 (q / 4 % 256)).2.1 ((zcls.getD (q / 1024) (RX1, TX1, 17)).2.1 (q / 4 % 256)).2.2.1 RX1 ∈ znest := List.mem_map.mpr ⟨_, mem4_ok _ hl, rfl⟩
          have hlw := va_Nw.use (A := args) rfl (hn1 _ hmem)
          rw [hgd] at hlw
          exact va_getN (C := r.1) (T := r.2.1) (N := r.2.2) hx hb hts (zin _ _ hr1) hown hK hP (a.toNat - 156) hg hr1 (q / 4 % 256) hpos hlw hsame hfv hd hkk
        · simp only [Bool.and_eq_true] at hl
          have := beqN hl.1.2
          omega
    · exact h.elim
  · cases ho
end ZH
