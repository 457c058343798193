/-! THE SIMULATION: newarray, anewarray, new -/
set_option maxRecDepth 100000
set_option maxHeartbeats 4000000
theorem zinst : ∀ (ci : Nat) (r : vw_C), zcls[ci]? = some r → Cond.instantiable r.1 r.2.2 ∈ lw_all
  | 0, _, h => by cases h; exact q275
  | 1, _, h => by cases h; exact q275
  | 2, _, h => by cases h; exact q283
  | 3, _, h => by cases h; exact q297
  | 4, _, h => by cases h; exact q312
  | 5, _, h => by cases h; exact q435
  | 6, _, h => by cases h; exact q441
  | 7, _, h => by cases h; exact q496
  | 8, _, h => by cases h; exact q803
  | 9, _, h => by cases h; exact q828
  | 10, _, h => by cases h; exact q878
  | 11, _, h => by cases h; exact q900
  | 12, _, h => by cases h; exact q960
  | 13, _, h => by cases h; exact q1001
  | 14, _, h => by cases h; exact q1020
  | 15, _, h => by cases h; exact q1108
  | 16, _, h => by cases h; exact q1148
  | 17, _, h => by cases h; exact q2505
  | n + 18, _, h => by simp [zcls] at h
theorem zinid : ∀ (ci : Nat) (r : vw_C), zcls[ci]? = some r → Cond.initialized r.1 ∈ lw_all
  | 0, _, h => by cases h; exact q243
  | 1, _, h => by cases h; exact q243
  | 2, _, h => by cases h; exact q244
  | 3, _, h => by cases h; exact q245
  | 4, _, h => by cases h; exact q246
  | 5, _, h => by cases h; exact q251
  | 6, _, h => by cases h; exact q252
  | 7, _, h => by cases h; exact q253
  | 8, _, h => by cases h; exact q254
  | 9, _, h => by cases h; exact q255
  | 10, _, h => by cases h; exact q256
  | 11, _, h => by cases h; exact q257
  | 12, _, h => by cases h; exact q258
  | 13, _, h => by cases h; exact q259
  | 14, _, h => by cases h; exact q260
  | 15, _, h => by cases h; exact q261
  | 16, _, h => by cases h; exact q262
  | 17, _, h => by cases h; exact q263
  | n + 18, _, h => by simp [zcls] at h
def zgt (t : FieldType) : Bool := match t with
  | .float => false
  | .double => false
  | _ => true
theorem zgt_all : ∀ ci, ci < 18 → ∀ j, j < 300 → zgt (zTy ci j) = true := by decide +kernel
theorem zlen60 : ∀ a, a < 372 → (shp a).2 ≤ 1000000 ∧ (100 ≤ (shp a).1 → (shp a).2 ≤ 300) := by decide +kernel
section ZU
variable {l : Launch} {D : va_G} {tc : Nat → ClassId} {A : Nat → Prop} {ex : Nat → Nat} {σ0 : mM} {kn : Nat → Nat → Option Int}
variable {d y : Nat} {k : mC} {ls st : List mV} {σ : mM} {Aq : mA} {Bq : mB} {pc : Nat} {C : zC}
theorem zdef {ad : Nat → Nat} {t : FieldType} (h : zgt t = true) : defaultValue t = zfv ad (zfk t) 0 := by
  cases t <;> first | rfl | cases h
theorem zi32_born {ln : Int} (h : 0 < σ 0 0) : zi32 (bornM σ ln) (σ 0 0).toNat = fun _ => 0 := by
  funext j
  unfold zi32
  rw [bornM_a h]
  rfl
theorem zi64_born {ln : Int} (h : 0 < σ 0 0) : zi64 (bornM σ ln) (σ 0 0).toNat = fun _ => 0 := by
  funext j
  unfold zi64
  rw [bornM_a h]
  rfl
theorem zrf_born {ad : Nat → Nat} {ln : Int} (h : 0 < σ 0 0) : zrf ad (bornM σ ln) (σ 0 0).toNat = fun _ => none := by
  funext j
  unfold zrf
  rw [bornM_a h, if_pos rfl]
theorem zvborn {ad : Nat → Nat} {ln : Int} {q : Nat} (h : 0 < σ 0 0) : zval (zad ad σ q) (bornM σ ln) (2, σ 0 0) (.ref q) := by
  refine Or.inr ⟨⟨h, by rw [bornM_0]; omega⟩, ?_⟩
  unfold zad
  rw [if_pos rfl]
theorem nneg32 {x : Int32} {z : Int} (e1 : x.toInt = z) (e2 : 0 ≤ z) : ¬ x < 0 := fun q => by
  have := Int32.lt_iff_toInt_lt.mp q
  have h00 : (0 : Int32).toInt = 0 := rfl
  omega
theorem zc_newarray {t : ArrayType} (hk0 : kn 156 0 = none → ∀ a p, kn a p = none) (hs : (pc, .newarray t) :: k <:+ cd y) (ho : zokI y pc (.newarray t) k = true) (h : sem kn C d y pc (.newarray t) k ls st σ Aq Bq (fun k ls st σ => zReal l D tc A ex σ0 kn d y k ls st σ Aq Bq)) : zReal l D tc A ex σ0 kn d y ((pc, .newarray t) :: k) ls st σ Aq Bq := by
  intro p e R s m args below meth c hc hr ad H locs cells slots lsR stR C0 S0 hC hS hz hlo hle hst Qw qa qb pc' i' k'' he _
  cases he
  have go := zgo_of (k := k) ((List.suffix_cons _ _).trans hs) hc hr hC hS qa qb
  obtain ⟨hx, hb, hml, hrt, hlk, hown, hts, hK, hE, hnm, hn1, hn2, -, -, hA, -⟩ := id hc
  obtain ⟨hd, i2, k2, e2⟩ := zdn_ok (show zdn y pc k (.newarray t) 2 = true from ho)
  obtain ⟨⟨⟨hbl, hbh⟩, hex, hP, hD, hok, hxm, hkn⟩, hSS, hcc, hss⟩ := id hz
  unfold sem at h
  dsimp only at h
  split at h
  · rename_i n r
    obtain ⟨x1, q1, rfl, ex1, hst1⟩ := zst_i hst
    obtain ⟨hkn0, h⟩ := nokn_ok h
    have hkn0 := hk0 hkn0
    obtain ⟨hsk, hln, hs2, hs3, h⟩ := born_ok h
    have hpos : 0 < σ 0 0 := by omega
    have hk9 : (shp (σ 0 0).toNat).1 = arrK t := hsk
    have hnz : ¬ shK (σ 0 0) = 0 := by rw [hsk]; cases t <;> decide
    have hlt := shp_lt _ hnz
    have hlen := shL_of (σ := σ) (a := σ 0 0) (n := 0) (zxl _ hlt (by omega))
    have hN : n = ((shp (σ 0 0).toNat).2 - 1 : Nat) := hln.trans hlen
    have hn0 : 0 ≤ n := by omega
    have hc1 := clampI ex1 hn0
    simp only [Int.ofNat_eq_natCast] at hc1
    have h70 := (zlen60 _ hlt).1
    have hmain : ∀ (kd t0 : Nat) (ty : FieldType) (a0 : vp_A), newarray.typeOf t = ty → (Cond.arrayClass (newarray.typeOf t)).before args s = true → (ztys tc)[t0]? = some (tc kd, ty) → (∀ cA cB : ClassId, va_RA s cA ty → va_RA s cB ty → cA = cB) → componentBytes ty ≤ 8 → (∀ cA : ClassId, vp_cell cA a0 = arrV cA ((shp (σ 0 0).toNat).2 - 1) (fun _ => defaultValue ty)) →
        (∀ q, zE tc (zad ad σ q) (bornM σ n) (σ 0 0).toNat = .inl (tc kd, a0)) → W p l e R s m args below meth c H locs cells slots Qw (F0 m pc lsR (.int x1 :: q1)) := by
      intro kd t0 ty a0 hty harr ht0 huniq hcb ha hEq
      refine va_newa hx hb harr hty hK hP hD hSS hA ha (nneg32 ex1 hn0) (by omega) ?_ (by omega) (by omega) hd (fun q cA H1 hK1 hP1 hD1 hS1 => ?_)
      · exact Nat.le_trans (Nat.mul_le_mul (show (shp (σ 0 0).toNat).2 - 1 ≤ 1000000 by omega) hcb) (by decide)
      · have hcA : cA = tc kd := by
          refine huniq _ _ (hK1.2 (ztys tc).length (cA, ty) ?_).2 (hK.2 t0 _ ht0).2
          rw [List.getElem?_append_right (Nat.le_refl _), Nat.sub_self]
          rfl
        subst hcA
        obtain ⟨hz1, hL⟩ := zborn (ln := n) hs2 hs3 hnz hkn0 hz.1 hP1 hD1 (hEq q)
        exact go _ _ _ _ _ _ _ _ _ _ h hL (zRl_born hpos hN hz hz1 hS1) (zloc_up hL.1 hL.2 hlo) hle (zpv (zvborn hpos) (zst_up hL.1 hL.2 hst1)) _ _ _ e2
    have huq : ∀ (ty : FieldType), (∀ cA, va_RA s cA ty → s.vm.findClass ("[" ++ ty.toString) = some cA) → ∀ cA cB : ClassId, va_RA s cA ty → va_RA s cB ty → cA = cB := fun ty h1 cA cB h2 h3 => Option.some.inj ((h1 _ h2).symm.trans (h1 _ h3))
    cases t
    case int => exact hmain 1 0 .int ((shp (σ 0 0).toNat).2 - 1, .inl (fun _ => 0)) rfl (hts _ q433) rfl (huq _ (fun _ z => z)) (by decide) (fun _ => rfl) (fun q => by unfold zE; rw [hk9]; simp only [arrK, zi32_born hpos])
    case long => exact hmain 2 1 .long ((shp (σ 0 0).toNat).2 - 1, .inr (.inl (fun _ => 0))) rfl (hts _ q432) rfl (huq _ (fun _ z => z)) (by decide) (fun _ => rfl) (fun q => by unfold zE; rw [hk9]; simp only [arrK, zi64_born hpos])
    case byte => exact hmain 3 2 .byte ((shp (σ 0 0).toNat).2 - 1, .inl (fun _ => 0)) rfl (hts _ q295) rfl (huq _ (fun _ z => z)) (by decide) (fun _ => rfl) (fun q => by unfold zE; rw [hk9]; simp only [arrK, zi32_born hpos])
    case boolean => exact hmain 4 3 .boolean ((shp (σ 0 0).toNat).2 - 1, .inl (fun _ => 0)) rfl (hts _ q494) rfl (huq _ (fun _ z => z)) (by decide) (fun _ => rfl) (fun q => by unfold zE; rw [hk9]; simp only [arrK, zi32_born hpos])
    all_goals
      exfalso
      have h99 : (shp (σ 0 0).toNat).1 = 99 := hk9
      have := zkinds _ hlt
      omega
  · exact h.elim
theorem zc_anewarray {t : Nat} (hk0 : kn 156 0 = none → ∀ a p, kn a p = none) (hs : (pc, .anewarray t) :: k <:+ cd y) (ho : zokI y pc (.anewarray t) k = true) (h : sem kn C d y pc (.anewarray t) k ls st σ Aq Bq (fun k ls st σ => zReal l D tc A ex σ0 kn d y k ls st σ Aq Bq)) : zReal l D tc A ex σ0 kn d y ((pc, .anewarray t) :: k) ls st σ Aq Bq := by
  intro p e R s m args below meth c hc hr ad H locs cells slots lsR stR C0 S0 hC hS hz hlo hle hst Qw qa qb pc' i' k'' he _
  cases he
  have go := zgo_of (k := k) ((List.suffix_cons _ _).trans hs) hc hr hC hS qa qb
  obtain ⟨hx, hb, hml, hrt, hlk, hown, hts, hK, hE, hnm, hn1, hn2, -, -, hA, -, -, hthw, -⟩ := id hc
  obtain ⟨⟨⟨hbl, hbh⟩, hex, hP, hD, hok, hxm, hkn⟩, hSS, hcc, hss⟩ := id hz
  unfold zokI at ho
  dsimp only at ho
  split at ho
  · rename_i j n0 hd
    simp only [Bool.and_eq_true] at ho
    obtain ⟨⟨hn, hq⟩, hli⟩ := ho
    obtain rfl := beqN hn
    obtain ⟨i2, k2, e2⟩ := nxb_ok hq
    have hli := zCL_ok _ (mem3_ok _ hli)
    unfold sem at h
    dsimp only at h
    split at h
    · rename_i n r
      obtain ⟨x1, q1, rfl, ex1, hst1⟩ := zst_i hst
      obtain ⟨hkn0, h⟩ := nokn_ok h
      have hkn0 := hk0 hkn0
      obtain ⟨hsk, hln, hs2, hs3, h⟩ := born_ok h
      have hpos : 0 < σ 0 0 := by omega
      have hk9 : (shp (σ 0 0).toNat).1 = 5 := hsk
      have hnz : ¬ shK (σ 0 0) = 0 := by rw [hsk]; decide
      have hlt := shp_lt _ hnz
      have hlen := shL_of (σ := σ) (a := σ 0 0) (n := 0) (zxl _ hlt (by omega))
      have hN : n = ((shp (σ 0 0).toNat).2 - 1 : Nat) := hln.trans hlen
      have hn0 : 0 ≤ n := by omega
      have hc1 := clampI ex1 hn0
      simp only [Int.ofNat_eq_natCast] at hc1
      have h70 := (zlen60 _ hlt).1
      refine va_newq (N' := (shp (σ 0 0).toNat).2 - 1) hx hb hown (C := "java/lang/String") (hts _ hli) (va_AO.of (hthw _ (by simp [zThw]) args)) hK hP hD hSS hA (nneg32 ex1 hn0) (by omega) (by omega) (by omega) (by omega) hd (fun q cA H1 hK1 hP1 hD1 hS1 => ?_)
      have hcA : cA = tc 5 := by
        have h1 := (hK1.2 (ztys tc).length (cA, .object "java/lang/String") (by rw [List.getElem?_append_right (Nat.le_refl _), Nat.sub_self]; rfl)).2
        have h2 := (hK.2 4 (tc 5, .object "java/lang/String") rfl).2
        obtain ⟨-, -, -, -, -, h3⟩ := h1
        obtain ⟨-, -, -, -, -, h4⟩ := h2
        exact Option.some.inj (h3.symm.trans h4)
      subst hcA
      obtain ⟨hz1, hL⟩ := zborn (ln := n) hs2 hs3 hnz hkn0 hz.1 hP1 hD1 (by unfold zE; rw [hk9]; simp only [zrf_born hpos])
      exact go _ _ _ _ _ _ _ _ _ _ h hL (zRl_born hpos hN hz hz1 hS1) (zloc_up hL.1 hL.2 hlo) hle (zpv (zvborn hpos) (zst_up hL.1 hL.2 hst1)) _ _ _ e2
    · exact h.elim
  · cases ho
theorem zc_new {t : Nat} (ht : Nat.blt t 1000 = true) (hk0 : kn 156 0 = none → ∀ a p, kn a p = none) (hs : (pc, .new t) :: k <:+ cd y) (ho : zokI y pc (.new t) k = true) (h : sem kn C d y pc (.new t) k ls st σ Aq Bq (fun k ls st σ => zReal l D tc A ex σ0 kn d y k ls st σ Aq Bq)) : zReal l D tc A ex σ0 kn d y ((pc, .new t) :: k) ls st σ Aq Bq := by
  intro p e R s m args below meth c hc hr ad H locs cells slots lsR stR C0 S0 hC hS hz hlo hle hst Qw qa qb pc' i' k'' he _
  cases he
  have go := zgo_of (k := k) ((List.suffix_cons _ _).trans hs) hc hr hC hS qa qb
  obtain ⟨hx, hb, hml, hrt, hlk, hown, hts, hK, hE, hnm, hn1, hn2, -, -, hA, -⟩ := id hc
  obtain ⟨⟨⟨hbl, hbh⟩, hex, hP, hD, hok, hxm, hkn⟩, hSS, hcc, hss⟩ := id hz
  unfold zokI at ho
  dsimp only at ho
  split at ho
  · rename_i j n0 hd
    simp only [Bool.and_eq_true] at ho
    obtain ⟨⟨⟨hn, hq⟩, hli⟩, -⟩ := ho
    obtain rfl := beqN hn
    obtain ⟨i2, k2, e2⟩ := nxb_ok hq
    have hli := zCL_ok _ (mem3_ok _ hli)
    unfold sem at h
    dsimp only at h
    rw [ht] at h
    dsimp only at h
    obtain ⟨hkn0, h⟩ := nokn_ok h
    have hkn0 := hk0 hkn0
    obtain ⟨hsk, hln, hs2, hs3, h⟩ := born_ok h
    have hpos : 0 < σ 0 0 := by omega
    have hk9 : (shp (σ 0 0).toNat).1 = 100 + t := hsk
    have hnz : ¬ shK (σ 0 0) = 0 := by rw [hsk]; omega
    have hlt := shp_lt _ hnz
    have hlen := shL_of (σ := σ) (a := σ 0 0) (n := 0) (zxl _ hlt (by omega))
    obtain ⟨h18, r, hr1, hr2⟩ := zxo _ hlt (by omega) (by omega)
    have hci : (shp (σ 0 0).toNat).1 - 100 = t := by omega
    rw [hci] at h18 hr1
    have hone : 1 ≤ t := by
      rcases Nat.lt_or_ge t 1 with z | z
      · have : ∀ a, a < 372 → 156 ≤ a → ¬ (shp a).1 = 100 := by decide +kernel
        exact absurd (by omega) (this _ hlt (by omega))
      · exact z
    have hcn : zCN t = r.1 := by
      rw [← zR_cls _ _ hone hr1]
      unfold zCN
      split <;> first | omega | rfl
    rw [hcn] at hli
    have h60 := (zlen60 _ hlt).2 (by omega)
    refine va_new (fs := zfs (zad ad σ 0) (bornM σ (shL σ (σ 0 0))) (σ 0 0).toNat t ((shp (σ 0 0).toNat).2 - 1)) hx hb hts (zin t r hr1) (zTy t) (ztyok t r hr1) hown (hts _ hli) (hts _ (zinst t r hr1)) (hts _ (zinid t r hr1)) hK hP hD hSS hA hr1 (fun jj hj => ?_) (by omega) (by omega) hd (fun q H1 hP1 hD1 hS1 => ?_)
    · have hg := zfs_get (σ := bornM σ (shL σ (σ 0 0))) (ad := zad ad σ 0) (a := (σ 0 0).toNat) (ci := t) (n := (shp (σ 0 0).toNat).2 - 1) (j := jj) (by omega)
      unfold vp_V
      rw [List.getD_eq_getElem?_getD, hg, bornM_a hpos]
      exact zdef (zgt_all t h18 jj (by omega))
    · have hfs : zfs (zad ad σ 0) (bornM σ (shL σ (σ 0 0))) (σ 0 0).toNat t ((shp (σ 0 0).toNat).2 - 1) = zfs (zad ad σ q) (bornM σ (shL σ (σ 0 0))) (σ 0 0).toNat t ((shp (σ 0 0).toNat).2 - 1) := by
        unfold zfs
        refine List.map_congr_left (fun jj _ => ?_)
        rw [bornM_a hpos]
        unfold zfv
        split
        · rfl
        · rw [if_pos rfl, if_pos rfl]
        · rfl
      rw [hfs] at hP1 hD1
      obtain ⟨hz1, hL⟩ := zborn (ln := shL σ (σ 0 0)) hs2 hs3 hnz hkn0 hz.1 hP1 hD1 (zE_obj hk9)
      exact go _ _ _ _ _ _ _ _ _ _ h hL (zRl_born hpos (by rw [hlen, hr2]) hz hz1 hS1) (zloc_up hL.1 hL.2 hlo) hle (zpv (zvborn hpos) (zst_up hL.1 hL.2 hst)) _ _ _ e2
  · cases ho
end ZU
