/-! THE SIMULATION: what is read from the heap -/
set_option maxRecDepth 100000
set_option maxHeartbeats 4000000
theorem zx1 : ∀ a, a < 156 → (shp a).1 = 1 → a = 1 := by decide +kernel
theorem zx2 : ∀ a, a < 156 → ¬ (shp a).1 = 2 := by decide +kernel
theorem zx4 : ∀ a, a < 156 → ¬ (shp a).1 = 4 := by decide +kernel
theorem zx5 : ∀ a, a < 156 → ¬ (shp a).1 = 5 ∧ ¬ (shp a).1 = 6 := by decide +kernel
theorem zx3 : ∀ a, a < 156 → (shp a).1 = 3 → a % 2 = 1 ∧ 3 ≤ a := by decide +kernel
theorem zx8 : ∀ a, a < 156 → 100 ≤ (shp a).1 → a % 2 = 0 ∧ 2 ≤ a ∧ (shp a).1 = 118 := by decide +kernel
theorem zxl : ∀ a, a < 372 → 2 ≤ a → 1 ≤ (shp a).2 := by decide +kernel
theorem zxo : ∀ a, a < 372 → 156 ≤ a → 100 ≤ (shp a).1 → (shp a).1 - 100 < 18 ∧ ∃ r, zcls[(shp a).1 - 100]? = some r ∧ r.2.2 = (shp a).2 - 1 := by
  intro a h1 h2 h3
  have : ∀ a, a < 372 → 156 ≤ a → 100 ≤ (shp a).1 → (shp a).1 - 100 < 18 ∧ (zcls[(shp a).1 - 100]?).map (fun r => r.2.2) = some ((shp a).2 - 1) := by decide +kernel
  obtain ⟨q1, q2⟩ := this a h1 h2 h3
  refine ⟨q1, ?_⟩
  cases hr : zcls[(shp a).1 - 100]? with
  | none => rw [hr] at q2; cases q2
  | some r => rw [hr] at q2; exact ⟨r, rfl, by simpa using q2⟩
section ZF
variable {l : Launch} {D : va_G} {tc : Nat → ClassId} {A : Nat → Prop} {ex : Nat → Nat} {σ0 : mM} {kn : Nat → Nat → Option Int}
variable {d y : Nat} {k : mC} {ls st : List mV} {σ : mM} {Aq : mA} {Bq : mB} {pc : Nat} {C : zC}
theorem zW_get {ad : Nat → Nat} {a : Nat} (h : 156 ≤ a) (h2 : (a : Int) < σ 0 0) : (zW tc ad σ ((σ 0 0).toNat - 156))[a - 156]? = some (ad a, zE tc ad σ a) := by
  unfold zW
  have h3 : a - 156 < (σ 0 0).toNat - 156 := by omega
  have h4 : 156 + (a - 156) = a := by omega
  rw [List.getElem?_map, List.getElem?_range h3]
  simp only [Option.map_some, h4]
/-- a reference that has a shape is a cell -/
theorem zref {ad : Nat → Nat} {a : Int} {w : Value} (h : zval ad σ (2, a) w) (hk : ¬ shK a = 0) : w = .ref (ad a.toNat) ∧ 0 < a ∧ a < σ 0 0 := by
  rcases h with ⟨rfl, -⟩ | ⟨⟨h1, h2⟩, rfl⟩
  · exact absurd rfl hk
  · exact ⟨rfl, h1, h2⟩
theorem beqN {a b : Nat} (h : Nat.beq a b = true) : a = b := Nat.eq_of_beq_eq_true h
theorem clampI {x : Int32} {i : Int} (e : x.toInt = i) (h : 0 ≤ i) : Int.ofNat x.toNatClampNeg = i := by
  show ((x.toInt.toNat : Nat) : Int) = i
  omega
theorem vpin {x : Int32} {i : Int} {n : Nat} (e : x.toInt = i) (h : 0 ≤ i) (h2 : i < n) : vp_in x n := vp_in_iff.mpr (by omega)
theorem shL_of {a : Int} {n : Nat} (h : 1 ≤ (shp a.toNat).2) : shL σ a = ((shp a.toNat).2 - 1 : Nat) := by
  unfold shL
  split
  · omega
  · rename_i n hn
    rw [hn]
    rfl
theorem zok_arr {a j : Nat} (hk : (shp a).1 < 100) (h : zokc σ a) (hj : j < (shp a).2 - 1) : zok1 σ (zak (shp a).1) (σ a (Int.ofNat j)) := by
  unfold zokc at h
  split at h
  · exact h j hj
  · rename_i hb
    have : Nat.blt (shp a).1 100 = true := Nat.ble_eq_true_of_le hk
    rw [this] at hb; cases hb
theorem zok_obj {a j : Nat} (hk : 100 ≤ (shp a).1) (h : zokc σ a) (hj : j < (shp a).2 - 1) : zok1 σ (zfk (zTy ((shp a).1 - 100) j)) (σ a (Int.ofNat j)) := by
  unfold zokc at h
  split at h
  · rename_i hb
    have := Nat.le_of_ble_eq_true hb
    omega
  · exact h j hj
theorem zc_iaload (hs : (pc, .iaload) :: k <:+ cd y) (ho : zokI y pc .iaload k = true) (h : sem kn C d y pc .iaload k ls st σ Aq Bq (fun k ls st σ => zReal l D tc A ex σ0 kn d y k ls st σ Aq Bq)) : zReal l D tc A ex σ0 kn d y ((pc, .iaload) :: k) ls st σ Aq Bq := by
  intro p e R s m args below meth c hc hr ad H locs cells slots lsR stR C0 S0 hC hS hz hlo hle hst Qw qa qb pc' i' k'' he _
  cases he
  have go := zgo_of (k := k) ((List.suffix_cons _ _).trans hs) hc hr hC hS qa qb
  obtain ⟨hx, hb, hml, hrt, hlk, hown, hts, hK, hE, hnm, hn1, hn2⟩ := hc
  obtain ⟨hd, i2, k2, e2⟩ := zdn_ok (show zdn y pc k .iaload 1 = true from ho)
  obtain ⟨⟨⟨hbl, hbh⟩, hex, hP, hD, hok, hxm, hkn⟩, hSS, hcc, hss⟩ := id hz
  unfold sem at h
  dsimp only at h
  split at h
  · rename_i i a r
    obtain ⟨x1, q1, rfl, ex1, hst1⟩ := zst_i hst
    obtain ⟨w, q2, rfl, hw, hst2⟩ := zst_c hst1
    obtain ⟨hk, ⟨h0, h1⟩, h⟩ := chk_ok h
    have hk : (shp a.toNat).1 = 1 := beqN hk
    obtain ⟨rfl, ha0, ha1⟩ := zref hw (by show ¬ (shp a.toNat).1 = 0; rw [hk]; decide)
    rcases Nat.lt_or_ge a.toNat 156 with q | q
    · have ha := zx1 _ q hk
      obtain rfl : a = 1 := by omega
      obtain ⟨⟨L, xs, hX, hXl, hXA, hL, hL1, hxs⟩, -⟩ := hE
      have hlen : shL σ 1 = L := by
        show σ 1 (-1) = L
        rw [hxm 1 (-1) (by decide) (by decide), hL1]
      rw [hlen] at h1
      have had : ad (1 : Int).toNat = ex 1 := hex 1 (by decide)
      rw [had]
      refine va_sld hx hb hX hXl hXA hSS (vpin ex1 h0 h1) hd (go _ _ _ _ _ _ _ _ _ _ h zLat.rf hz hlo hle (zpi ?_ hst2) _ _ _ e2)
      have hj : x1.toNatClampNeg < L := by have := clampI ex1 h0; simp only [Int.ofNat_eq_natCast] at this; omega
      rw [← hxs _ hj, clampI ex1 h0]
      exact (hxm 1 i (by decide) (by decide)).symm
    · have hlt : a.toNat < 372 := by omega
      have hlen := shL_of (σ := σ) (a := a) (n := 0) (zxl _ hlt (by omega))
      rw [hlen] at h1
      have hg := zW_get (tc := tc) (ad := ad) (σ := σ) q (by omega)
      have hEq : zE tc ad σ a.toNat = .inl (tc 1, (shp a.toNat).2 - 1, .inl (zi32 σ a.toNat)) := by unfold zE; rw [hk]; rfl
      rw [hEq] at hg
      refine va_iald hx hb hK hP (a.toNat - 156) 0 hg rfl (vpin ex1 h0 h1) hd (go _ _ _ _ _ _ _ _ _ _ h zLat.rf hz hlo hle (zpi ?_ hst2) _ _ _ e2)
      have hj : x1.toNatClampNeg < (shp a.toNat).2 - 1 := by have := clampI ex1 h0; simp only [Int.ofNat_eq_natCast] at this; omega
      have := zok_arr (by rw [hk]; decide) (hok _ q (by omega)) hj
      rw [hk, clampI ex1 h0] at this
      show (Int32.ofInt (σ a.toNat (Int.ofNat x1.toNatClampNeg))).toInt = _
      rw [clampI ex1 h0]
      exact i32_to this
  · exact h.elim
theorem zc_laload (hs : (pc, .laload) :: k <:+ cd y) (ho : zokI y pc .laload k = true) (h : sem kn C d y pc .laload k ls st σ Aq Bq (fun k ls st σ => zReal l D tc A ex σ0 kn d y k ls st σ Aq Bq)) : zReal l D tc A ex σ0 kn d y ((pc, .laload) :: k) ls st σ Aq Bq := by
  intro p e R s m args below meth c hc hr ad H locs cells slots lsR stR C0 S0 hC hS hz hlo hle hst Qw qa qb pc' i' k'' he _
  cases he
  have go := zgo_of (k := k) ((List.suffix_cons _ _).trans hs) hc hr hC hS qa qb
  obtain ⟨hx, hb, hml, hrt, hlk, hown, hts, hK, hE, hnm, hn1, hn2⟩ := hc
  obtain ⟨hd, i2, k2, e2⟩ := zdn_ok (show zdn y pc k .laload 1 = true from ho)
  obtain ⟨⟨⟨hbl, hbh⟩, hex, hP, hD, hok, hxm, hkn⟩, hSS, hcc, hss⟩ := id hz
  unfold sem at h
  dsimp only at h
  split at h
  · rename_i i a r
    obtain ⟨x1, q1, rfl, ex1, hst1⟩ := zst_i hst
    obtain ⟨w, q2, rfl, hw, hst2⟩ := zst_c hst1
    obtain ⟨hk, ⟨h0, h1⟩, h⟩ := chk_ok h
    have hk : (shp a.toNat).1 = 2 := beqN hk
    obtain ⟨rfl, ha0, ha1⟩ := zref hw (by show ¬ (shp a.toNat).1 = 0; rw [hk]; decide)
    rcases Nat.lt_or_ge a.toNat 156 with q | q
    · exact absurd hk (zx2 _ q)
    · have hlt : a.toNat < 372 := by omega
      have hlen := shL_of (σ := σ) (a := a) (n := 0) (zxl _ hlt (by omega))
      rw [hlen] at h1
      have hg := zW_get (tc := tc) (ad := ad) (σ := σ) q (by omega)
      have hEq : zE tc ad σ a.toNat = .inl (tc 2, (shp a.toNat).2 - 1, .inr (.inl (zi64 σ a.toNat))) := by unfold zE; rw [hk]; rfl
      rw [hEq] at hg
      refine va_lald hx hb hK hP (a.toNat - 156) 1 hg rfl (vpin ex1 h0 h1) hd (go _ _ _ _ _ _ _ _ _ _ h zLat.rf hz hlo hle (zpl ?_ hst2) _ _ _ e2)
      have hj : x1.toNatClampNeg < (shp a.toNat).2 - 1 := by have := clampI ex1 h0; simp only [Int.ofNat_eq_natCast] at this; omega
      have := zok_arr (by rw [hk]; decide) (hok _ q (by omega)) hj
      rw [hk, clampI ex1 h0] at this
      show (Int64.ofInt (σ a.toNat (Int.ofNat x1.toNatClampNeg))).toInt = _
      rw [clampI ex1 h0]
      exact i64_to this
  · exact h.elim
theorem ok8_32 {z : Int} (h : ok8 z) : ok32 z := by unfold ok8 at h; unfold ok32; omega
theorem okb_32 {z : Int} (h : z = 0 ∨ z = 1) : ok32 z := by unfold ok32; omega
theorem zc_baload (hs : (pc, .baload) :: k <:+ cd y) (ho : zokI y pc .baload k = true) (h : sem kn C d y pc .baload k ls st σ Aq Bq (fun k ls st σ => zReal l D tc A ex σ0 kn d y k ls st σ Aq Bq)) : zReal l D tc A ex σ0 kn d y ((pc, .baload) :: k) ls st σ Aq Bq := by
  intro p e R s m args below meth c hc hr ad H locs cells slots lsR stR C0 S0 hC hS hz hlo hle hst Qw qa qb pc' i' k'' he _
  cases he
  have go := zgo_of (k := k) ((List.suffix_cons _ _).trans hs) hc hr hC hS qa qb
  obtain ⟨hx, hb, hml, hrt, hlk, hown, hts, hK, hE, hnm, hn1, hn2⟩ := hc
  obtain ⟨hd, i2, k2, e2⟩ := zdn_ok (show zdn y pc k .baload 1 = true from ho)
  obtain ⟨⟨⟨hbl, hbh⟩, hex, hP, hD, hok, hxm, hkn⟩, hSS, hcc, hss⟩ := id hz
  unfold sem at h
  dsimp only at h
  split at h
  · rename_i i a r
    obtain ⟨x1, q1, rfl, ex1, hst1⟩ := zst_i hst
    obtain ⟨w, q2, rfl, hw, hst2⟩ := zst_c hst1
    obtain ⟨hk, ⟨h0, h1⟩, h⟩ := chk_ok h
    have hk : (shp a.toNat).1 = 3 ∨ (shp a.toNat).1 = 4 := by
      rw [Bool.or_eq_true] at hk
      exact hk.imp beqN beqN
    obtain ⟨rfl, ha0, ha1⟩ := zref hw (by show ¬ (shp a.toNat).1 = 0; omega)
    have hlt : a.toNat < 372 := by omega
    have ha2 : 2 ≤ a.toNat := by
      rcases Nat.lt_or_ge a.toNat 2 with q | q
      · have : a.toNat = 1 := by omega
        rw [this] at hk
        exact absurd hk (by decide)
      · exact q
    have hlen := shL_of (σ := σ) (a := a) (n := 0) (zxl _ hlt ha2)
    rw [hlen] at h1
    have hj : x1.toNatClampNeg < (shp a.toNat).2 - 1 := by have := clampI ex1 h0; simp only [Int.ofNat_eq_natCast] at this; omega
    rcases Nat.lt_or_ge a.toNat 156 with q | q
    · have hk3 : (shp a.toNat).1 = 3 := hk.resolve_right (zx4 _ q)
      obtain ⟨hp1, hp2⟩ := zx3 _ q hk3
      obtain ⟨j, hj1, hj2⟩ : ∃ j, j < 77 ∧ a.toNat = 3 + 2 * j := ⟨(a.toNat - 3) / 2, by omega, by omega⟩
      obtain ⟨-, hstr, -⟩ := hE
      obtain ⟨-, -, -, hT, -, -, hb8⟩ := hstr j hj1
      rw [← hj2] at hT hb8
      have had : ad a.toNat = ex a.toNat := hex _ q
      rw [had]
      refine va_tb hx hb hT hSS (vpin ex1 h0 h1) rfl hd (go _ _ _ _ _ _ _ _ _ _ h zLat.rf hz hlo hle (zpi ?_ hst2) _ _ _ e2)
      show (Int32.ofInt (σ0 a.toNat (Int.ofNat x1.toNatClampNeg))).toInt = _
      rw [i32_to (ok8_32 (hb8 _ hj)), clampI ex1 h0]
      exact (hxm _ _ (by omega) q).symm
    · have hg := zW_get (tc := tc) (ad := ad) (σ := σ) q (by omega)
      have hv := zok_arr (by omega) (hok _ q (by omega)) hj
      rcases hk with hk | hk
      · have hEq : zE tc ad σ a.toNat = .inl (tc 3, (shp a.toNat).2 - 1, .inl (zi32 σ a.toNat)) := by unfold zE; rw [hk]; rfl
        rw [hEq] at hg
        refine va_bald hx hb hK hP (a.toNat - 156) 2 hg rfl (vpin ex1 h0 h1) hd (go _ _ _ _ _ _ _ _ _ _ h zLat.rf hz hlo hle (zpi ?_ hst2) _ _ _ e2)
        rw [hk, clampI ex1 h0] at hv
        show (Int32.ofInt (σ a.toNat (Int.ofNat x1.toNatClampNeg))).toInt = _
        rw [clampI ex1 h0]
        exact i32_to (ok8_32 hv)
      · have hEq : zE tc ad σ a.toNat = .inl (tc 4, (shp a.toNat).2 - 1, .inl (zi32 σ a.toNat)) := by unfold zE; rw [hk]; rfl
        rw [hEq] at hg
        refine va_zald hx hb hK hP (a.toNat - 156) 3 hg rfl (vpin ex1 h0 h1) hd (go _ _ _ _ _ _ _ _ _ _ h zLat.rf hz hlo hle (zpi ?_ hst2) _ _ _ e2)
        rw [hk, clampI ex1 h0] at hv
        show (Int32.ofInt (σ a.toNat (Int.ofNat x1.toNatClampNeg))).toInt = _
        rw [clampI ex1 h0]
        exact i32_to (okb_32 hv)
  · exact h.elim
end ZF
