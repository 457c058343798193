/-! THE SIMULATION: arraycopy, statics, texts, text stores -/
set_option maxRecDepth 100000
set_option maxHeartbeats 4000000
theorem zMN_0 : ∀ t ∈ zMN, ¬ t.2.2 = 0 := by decide +kernel
section ZS
variable {l : Launch} {D : va_G} {tc : Nat → ClassId} {A : Nat → Prop} {ex : Nat → Nat} {σ0 : mM} {kn : Nat → Nat → Option Int}
variable {d y : Nat} {k : mC} {ls st : List mV} {σ : mM} {Aq : mA} {Bq : mB} {pc : Nat} {C : zC}
theorem cpyM_same {a b c : Nat} {i j n : Int} (h : c ≠ b) : cpyM σ a i b j n c = σ c := by
  funext q
  unfold cpyM
  rw [if_neg (fun z => h z.1)]
theorem zi32_cpy {a b : Nat} {i j n : Int} {sp dp nn : Int32} (e1 : sp.toInt = i) (e2 : dp.toInt = j) (e3 : nn.toInt = n) (h1 : 0 ≤ i) (h2 : 0 ≤ j) (h3 : 0 ≤ n) : va_cpy (zi32 σ a) (zi32 σ b) sp.toNatClampNeg dp.toNatClampNeg nn.toNatClampNeg = zi32 (cpyM σ a i b j n) b := by
  funext k
  have c1 := clampI e1 h1
  have c2 := clampI e2 h2
  have c3 := clampI e3 h3
  simp only [Int.ofNat_eq_natCast] at c1 c2 c3
  unfold va_cpy zi32 cpyM
  by_cases hq : dp.toNatClampNeg ≤ k ∧ k < dp.toNatClampNeg + nn.toNatClampNeg
  · rw [if_pos hq, if_pos ⟨rfl, by simp only [Int.ofNat_eq_natCast]; omega, by simp only [Int.ofNat_eq_natCast]; omega⟩]
    congr 2
    simp only [Int.ofNat_eq_natCast]
    omega
  · rw [if_neg hq, if_neg (fun z => hq ⟨by have := z.2.1; simp only [Int.ofNat_eq_natCast] at this; omega, by have := z.2.2; simp only [Int.ofNat_eq_natCast] at this; omega⟩)]
theorem zc_arraycopy {q : Nat} (hka : ∀ a p, (shp a).1 < 100 → kn a p = none) (hy : y ∈ (List.range 462).drop 2) (hq0 : q / 64 = 0) (hs : (pc, .invokestatic q) :: k <:+ cd y) (ho : zokI y pc (.invokestatic q) k = true) (h : sem kn C d y pc (.invokestatic q) k ls st σ Aq Bq (fun k ls st σ => zReal l D tc A ex σ0 kn d y k ls st σ Aq Bq)) : zReal l D tc A ex σ0 kn d y ((pc, .invokestatic q) :: k) ls st σ Aq Bq := by
  intro p e R s m args below meth c hc hr ad H locs cells slots lsR stR C0 S0 hC hS hz hlo hle hst Qw qa qb pc' i' k'' he _
  cases he
  have go := zgo_of (k := k) ((List.suffix_cons _ _).trans hs) hc hr hC hS qa qb
  obtain ⟨hx, hb, hml, hrt, hlk, hown, hts, hK, hE, hnm, hn1, hn2⟩ := id hc
  obtain ⟨⟨⟨hbl, hbh⟩, hex, hP, hD, hok, hxm, hkn⟩, hSS, hcc, hss⟩ := id hz
  have hr1 := hr.1
  have hr2 := hr.2
  have hht := zhtm y hy
  unfold zokI at ho
  dsimp only at ho
  split at ho
  · rename_i j0 n0 hd
    simp only [Bool.and_eq_true, Bool.or_eq_true] at ho
    obtain ⟨⟨⟨⟨hn, hq⟩, hli⟩, -⟩, -⟩ := ho
    obtain rfl := beqN hn
    obtain ⟨i2, k2, e2⟩ := nxb_ok hq
    have hli := zML_ok _ (mem3_ok _ (by
      rcases hli with z | z
      · exact z
      · exact absurd hq0 (zMN_0 _ (mem3_ok _ z))))
    rw [hq0] at hli
    have hli : Cond.methodLink (zR (mcl y)) j0 arraycopyName ∈ lw_all := by
      have e9 : zyN 0 = arraycopyName := by decide +kernel
      rw [← e9]
      exact hli
    unfold sem at h
    dsimp only at h
    split at h
    · split at h
      · rename_i n j b i a r
        obtain ⟨x1, q1, rfl, ex1, hst1⟩ := zst_i hst
        obtain ⟨x2, q2, rfl, ex2, hst2⟩ := zst_i hst1
        obtain ⟨w3, q3, rfl, hw3, hst3⟩ := zst_c hst2
        obtain ⟨x4, q4, rfl, ex4, hst4⟩ := zst_i hst3
        obtain ⟨w5, q5, rfl, hw5, hst5⟩ := zst_c hst4
        obtain ⟨hk, h⟩ := chk_ok h
        obtain ⟨hl8, ⟨h1, h2, h3, h4, h5⟩, h⟩ := noN_ok h
        simp only [Bool.and_eq_true, Bool.or_eq_true] at hk
        obtain ⟨⟨⟨hkab, hka13⟩, hb155⟩, ha155⟩ := hk
        have hkab : (shp a.toNat).1 = (shp b.toNat).1 := beqN hkab
        have qb1 : 156 ≤ b.toNat := Nat.le_of_ble_eq_true hb155
        have qa1 : 156 ≤ a.toNat := Nat.le_of_ble_eq_true ha155
        have hka13 : (shp a.toNat).1 = 1 ∨ (shp a.toNat).1 = 3 := by
          rcases hka13 with z | z
          · exact Or.inl (beqN z)
          · exact Or.inr (beqN z)
        obtain ⟨rfl, ha0, ha1⟩ := zref hw5 (by show ¬ (shp a.toNat).1 = 0; omega)
        obtain ⟨rfl, hb0, hb1⟩ := zref hw3 (by show ¬ (shp b.toNat).1 = 0; omega)
        have hlta : a.toNat < 372 := by omega
        have hltb : b.toNat < 372 := by omega
        rw [shL_of (σ := σ) (a := a) (n := 0) (zxl _ hlta (by omega))] at h3
        rw [shL_of (σ := σ) (a := b) (n := 0) (zxl _ hltb (by omega))] at h5
        have c1 := clampI ex1 h1
        have c2 := clampI ex2 h4
        have c4 := clampI ex4 h2
        simp only [Int.ofNat_eq_natCast] at c1 c2 c4
        have hga := zW_get (tc := tc) (ad := ad) (σ := σ) qa1 (by omega)
        have hgb := zW_get (tc := tc) (ad := ad) (σ := σ) qb1 (by omega)
        have nneg : ∀ {x : Int32} {z : Int}, x.toInt = z → 0 ≤ z → ¬ x < 0 := fun {x z} e1 e2 q => by
          have := Int32.lt_iff_toInt_lt.mp q
          have h00 : (0 : Int32).toInt = 0 := rfl
          omega
        have hcat := zcats hst5
        have hloc : ((q5.map fun v => v.category).sum + (nativeFrameWords "java/lang/System" "arraycopy" 5 + 11)) ≤ R.locals := by
          have : nativeFrameWords "java/lang/System" "arraycopy" 5 = 7 := by decide +kernel
          omega
        have hmain : ∀ (kd t0 : Nat) (ty : FieldType), (shp a.toNat).1 = kd → kd < 100 → (∀ (σ' : mM) (z : Nat), (shp z).1 = kd → zE tc ad σ' z = .inl (tc kd, (shp z).2 - 1, .inl (zi32 σ' z))) → (ztys tc)[t0]? = some (tc kd, ty) → refKind ty = false → (∀ z : Int, zok1 σ (zak kd) z → fits ty (.int (Int32.ofInt z)) = true) →
            W p l e R s m args below meth c H locs cells slots Qw (F0 m pc lsR (.int x1 :: .int x2 :: .ref (ad b.toNat) :: .int x4 :: .ref (ad a.toNat) :: q5)) := by
          intro kd t0 ty hkd hkd100 hEq ht0 hprim hfit
          rw [hEq σ _ hkd] at hga
          rw [hEq σ _ (hkab ▸ hkd)] at hgb
          refine va_copyi hx hb (hml.trans (hlo.1.trans hle).symm) hown (hts _ hli) (hts _ q1737) (hts _ q1736) (hts _ q271) hK hP hD hSS (a.toNat - 156) (b.toNat - 156) t0 t0 hga hgb ht0 ht0 hprim (nneg ex4 h2) (nneg ex2 h4) (nneg ex1 h1) (by omega) (by omega) (fun z hzz => ?_) (by omega) hloc hd (fun H1 locs1 hP1 hD1 hS1 => ?_)
          · refine hfit _ ?_
            have := zok_arr (σ := σ) (a := a.toNat) (j := x4.toNatClampNeg + z) (by omega) (hok _ qa1 (by omega)) (by omega)
            rw [hkd] at this
            exact this
          · rw [zi32_cpy ex4 ex2 ex1 h2 h4 h1, ← hEq _ _ (hkab ▸ hkd)] at hP1 hD1
            have hok2 : zokc (cpyM σ a.toNat i b.toNat j n) b.toNat := by
              have hbb := hok _ qb1 (by omega)
              have haa := hok _ qa1 (by omega)
              have h0 : cpyM σ a.toNat i b.toNat j n 0 = σ 0 := cpyM_same (by omega)
              unfold zokc
              rw [show Nat.blt (shp b.toNat).1 100 = true from Nat.ble_eq_true_of_le (by omega)]
              intro z hzz
              have hzb := zok_arr (by omega) hbb hzz
              refine zok1_up (by rw [h0]; exact Int.le_refl _) ?_
              unfold cpyM
              split
              · rename_i hcond
                obtain ⟨-, z1, z2⟩ := hcond
                simp only [Int.ofNat_eq_natCast] at z1 z2
                have hzz2 : (Int.ofNat z) - j + i = Int.ofNat ((z : Int) - j + i).toNat := by simp only [Int.ofNat_eq_natCast]; omega
                rw [hzz2, ← hkab]
                exact zok_arr (by omega) haa (by omega)
              · exact hzb
            have hz1 := zHp_set hz.1 qb1 (by omega) (fun b2 hb2 => cpyM_same hb2) hok2 (fun pp vv hh => by rw [hka _ _ (by omega)] at hh; cases hh) hP1 hD1
            have h0 : cpyM σ a.toNat i b.toNat j n 0 = σ 0 := cpyM_same (by omega)
            have hL : zLat ad σ ad (cpyM σ a.toNat i b.toNat j n) := ⟨by rw [h0]; exact Int.le_refl _, fun _ _ => rfl⟩
            exact go _ _ _ _ _ _ _ _ _ _ h hL ⟨hz1, hS1, by rw [h0]; exact hz.2.2.1, by rw [h0]; exact hz.2.2.2⟩ (zloc_up hL.1 hL.2 hlo) hle (zst_up hL.1 hL.2 hst5) _ _ _ e2
        rcases hka13 with hk1 | hk3
        · exact hmain 1 0 .int hk1 (by decide) (fun σ' z hz => by unfold zE; rw [hz]; rfl) rfl rfl (fun z hz => rfl)
        · refine hmain 3 2 .byte hk3 (by decide) (fun σ' z hz => by unfold zE; rw [hz]; rfl) rfl rfl (fun z hz => ?_)
          have hz8 : ok8 z := hz
          unfold ok8 at hz8
          have e0 := i32_to (z := z) ⟨by omega, by omega⟩
          show (decide (-128 ≤ Int32.ofInt z) && decide (Int32.ofInt z ≤ 127)) = true
          rw [Bool.and_eq_true, decide_eq_true_eq, decide_eq_true_eq, Int32.le_iff_toInt_le, Int32.le_iff_toInt_le, e0]
          exact hz8
      · exact h.elim
    · rename_i hne
      exact absurd hq0 hne
  · cases ho
theorem zc_getstatic {v : Nat} (hs : (pc, .getstatic v) :: k <:+ cd y) (ho : zokI y pc (.getstatic v) k = true) (h : sem kn C d y pc (.getstatic v) k ls st σ Aq Bq (fun k ls st σ => zReal l D tc A ex σ0 kn d y k ls st σ Aq Bq)) : zReal l D tc A ex σ0 kn d y ((pc, .getstatic v) :: k) ls st σ Aq Bq := by
  intro p e R s m args below meth c hc hr ad H locs cells slots lsR stR C0 S0 hC hS hz hlo hle hst Qw qa qb pc' i' k'' he _
  cases he
  have go := zgo_of (k := k) ((List.suffix_cons _ _).trans hs) hc hr hC hS qa qb
  obtain ⟨hx, hb, hml, hrt, hlk, hown, hts, hK, hE, hnm, hn1, hn2⟩ := id hc
  obtain ⟨-, -, hZ1, hZ2⟩ := hE
  unfold zokI at ho
  dsimp only at ho
  split at ho
  · rename_i j n hd
    simp only [Bool.and_eq_true, Bool.or_eq_true] at ho
    obtain ⟨⟨hn, hq⟩, hm18, hv⟩ := ho
    obtain rfl := beqN hn
    obtain ⟨i2, k2, e2⟩ := nxb_ok hq
    have hm18 : mcl y = 18 := beqN hm18
    have hown2 : s.vm.findClass "java/lang/String" = some m.cls := by rw [hm18] at hown; exact hown
    unfold sem at h
    dsimp only at h
    rcases hv with ⟨v1, v2⟩ | ⟨v1, v2⟩
    · obtain rfl := beqN v1
      obtain rfl := beqN v2
      exact va_gets hx hb hZ1 hz.2.1 hown2 (hts _ q358) (fun _ h9 => h9) hd (go _ _ _ _ _ _ _ _ _ _ h zLat.rf hz hlo hle (zpv ⟨1, rfl, rfl⟩ hst) _ _ _ e2)
    · obtain rfl := beqN v1
      obtain rfl := beqN v2
      rcases hZ2 with hZ2 | ⟨t, hZ2⟩
      · exact va_gets hx hb hZ2 hz.2.1 hown2 (hts _ q374) (fun _ h9 => h9) hd (go _ _ _ _ _ _ _ _ _ _ h zLat.rf hz hlo hle (zpv (Or.inl rfl) hst) _ _ _ e2)
      · exact va_gets hx hb hZ2 hz.2.1 hown2 (hts _ q374) (fun _ h9 => h9) hd (go _ _ _ _ _ _ _ _ _ _ h zLat.rf hz hlo hle (zpv (Or.inr ⟨t, rfl⟩) hst) _ _ _ e2)
  · cases ho
theorem zKS_rg : ∀ t ∈ zKS, 2 ≤ t.2.2 ∧ t.2.2 < 156 := by decide +kernel
theorem zc_sipush {v : Int} (hs : (pc, .sipush v) :: k <:+ cd y) (ho : zokI y pc (.sipush v) k = true) (h : sem kn C d y pc (.sipush v) k ls st σ Aq Bq (fun k ls st σ => zReal l D tc A ex σ0 kn d y k ls st σ Aq Bq)) : zReal l D tc A ex σ0 kn d y ((pc, .sipush v) :: k) ls st σ Aq Bq := by
  intro p e R s m args below meth c hc hr ad H locs cells slots lsR stR C0 S0 hC hS hz hlo hle hst Qw qa qb pc' i' k'' he _
  cases he
  have go := zgo_of (k := k) ((List.suffix_cons _ _).trans hs) hc hr hC hS qa qb
  obtain ⟨hx, hb, hml, hrt, hlk, hown, hts, hK, hE, hnm, hn1, hn2, -, hstr, -⟩ := id hc
  obtain ⟨⟨hbl, hbh⟩, hex, -⟩ := hz.1
  have hval : ∀ j, (mcl y, j, v) ∈ zKS → zval ad σ (2, v) (.ref (ex v.toNat)) := fun j hj => by
    obtain ⟨h1, h2⟩ := zKS_rg _ hj
    dsimp only at h1 h2
    refine Or.inr ⟨⟨by omega, by omega⟩, ?_⟩
    rw [hex _ (by omega)]
  unfold zokI at ho
  dsimp only at ho
  unfold sem at h
  dsimp only at h
  split at ho
  · rename_i j n hd
    simp only [Bool.and_eq_true] at ho
    obtain ⟨⟨hm, hn⟩, hq⟩ := ho
    obtain rfl := beqN hn
    obtain ⟨i2, k2, e2⟩ := nxb_ok hq
    have hm := memI_ok _ hm
    obtain ⟨tx, htx⟩ := hstr _ hm
    exact va_ldcS hx hb hown htx hd (go _ _ _ _ _ _ _ _ _ _ h zLat.rf hz hlo hle (zpv (hval j hm) hst) _ _ _ e2)
  · rename_i j n hd
    simp only [Bool.and_eq_true] at ho
    obtain ⟨⟨hm, hn⟩, hq⟩ := ho
    obtain rfl := beqN hn
    obtain ⟨i2, k2, e2⟩ := nxb_ok hq
    have hm := memI_ok _ hm
    obtain ⟨tx, htx⟩ := hstr _ hm
    intro T hT X
    obtain ⟨t, u1, u2⟩ := go _ _ _ _ _ _ _ _ _ _ h zLat.rf hz hlo hle (zpv (hval j hm) hst) _ _ _ e2 T hT X
    exact ⟨t, ldcStringW X hx hown (text := tx) (a := ex v.toNat) htx.1 htx.2 (g := F0 m pc lsR stR) rfl (by rw [hb]; exact hd) t u1, u2⟩
  · cases ho
theorem zc_aastore (hka : ∀ a p, (shp a).1 < 100 → kn a p = none) (hs : (pc, .aastore) :: k <:+ cd y) (ho : zokI y pc .aastore k = true) (h : sem kn C d y pc .aastore k ls st σ Aq Bq (fun k ls st σ => zReal l D tc A ex σ0 kn d y k ls st σ Aq Bq)) : zReal l D tc A ex σ0 kn d y ((pc, .aastore) :: k) ls st σ Aq Bq := by
  intro p e R s m args below meth c hc hr ad H locs cells slots lsR stR C0 S0 hC hS hz hlo hle hst Qw qa qb pc' i' k'' he _
  cases he
  have go := zgo_of (k := k) ((List.suffix_cons _ _).trans hs) hc hr hC hS qa qb
  obtain ⟨hx, hb, hml, hrt, hlk, hown, hts, hK, hE, hnm, hn1, hn2⟩ := id hc
  obtain ⟨hd, i2, k2, e2⟩ := zdn_ok (show zdn y pc k .aastore 1 = true from ho)
  obtain ⟨⟨⟨hbl, hbh⟩, hex, hP, hD, hok, hxm, hkn⟩, hSS, hcc, hss⟩ := id hz
  unfold sem at h
  dsimp only at h
  split at h
  · rename_i v i a r
    obtain ⟨w0, q0, rfl, hw0, hst0⟩ := zst_c hst
    obtain ⟨x1, q1, rfl, ex1, hst1⟩ := zst_i hst0
    obtain ⟨w, q2, rfl, hw, hst2⟩ := zst_c hst1
    obtain ⟨hk, ⟨h0, h1⟩, h⟩ := chk_ok h
    rw [Bool.and_eq_true, Bool.and_eq_true] at hk
    obtain ⟨⟨hk, hkv⟩, h155⟩ := hk
    have hk : (shp a.toNat).1 = 5 := beqN hk
    have hkv : (shp v.toNat).1 = 100 + 18 := beqN hkv
    have q : 156 ≤ a.toNat := Nat.le_of_ble_eq_true h155
    obtain ⟨rfl, ha0, ha1⟩ := zref hw (by show ¬ (shp a.toNat).1 = 0; rw [hk]; decide)
    obtain ⟨rfl, hv0, hv1⟩ := zref hw0 (by show ¬ (shp v.toNat).1 = 0; rw [hkv]; decide)
    have hlt : a.toNat < 372 := by omega
    have hlen := shL_of (σ := σ) (a := a) (n := 0) (zxl _ hlt (by omega))
    rw [hlen] at h1
    have hg := zW_get (tc := tc) (ad := ad) (σ := σ) q (by omega)
    have hEq : ∀ σ' : mM, zE tc ad σ' a.toNat = .inl (tc 5, (shp a.toNat).2 - 1, .inr (.inr (.inr (.inr (zrf ad σ' a.toNat))))) := fun σ' => by unfold zE; rw [hk]; rfl
    rw [hEq] at hg
    have hov : zok1 σ (zak (shp a.toNat).1) v := by rw [hk]; exact Or.inr ⟨hv0, hv1⟩
    have hany : va_Any "java/lang/String" s H (ad v.toNat) := by
      obtain ⟨cell, c1, c2, c3⟩ := zobj hc hz hv0 hv1 hkv
      obtain ⟨kC, hkC, -⟩ := Vm.findClass_spec c3
      refine ⟨cell, c1, c2, ⟨kC, hkC⟩, fun comp hcomp => ?_⟩
      have e9 : comp = cell.cls := Option.some.inj (hcomp.symm.trans c3)
      rw [e9]
      exact va_asg _ _
    refine va_astqM hx hb hK hP hD hSS (a.toNat - 156) 4 hg rfl hany (vpin ex1 h0 h1) hd (fun H1 locs1 hP1 hD1 hS1 => ?_)
    have hup : va_up (zrf ad σ a.toNat) x1.toNatClampNeg (some (ad v.toNat)) = zrf ad (ms σ a.toNat i v) a.toNat := by
      funext jj
      have hc9 := clampI ex1 h0
      unfold va_up zrf
      split
      · rename_i e9
        subst e9
        rw [hc9, ms_at, if_neg (by omega)]
      · rename_i e9
        rw [ms_ne]
        intro z
        apply e9
        rw [← hc9] at z
        exact Int.ofNat.inj z
    rw [hup, ← hEq] at hP1 hD1
    have hz1 := zHp_set hz.1 q (by omega) (fun b hb => ms_same hb) (zokc_arr (i := i) (by omega) (by rw [hk]; decide) (hok _ q (by omega)) hov) (fun pp vv hh => by rw [hka _ _ (by rw [hk]; decide)] at hh; cases hh) hP1 hD1
    have hL := zLat_ms (ad := ad) (σ := σ) (a := a.toNat) (i := i) (v := v) (by omega)
    exact go _ _ _ _ _ _ _ _ _ _ h hL (zRl_ms (by omega) hz hz1 hS1) (zloc_up hL.1 hL.2 hlo) hle (zst_up hL.1 hL.2 hst2) _ _ _ e2
  · exact h.elim
end ZS
