/-! THE SIMULATION: bytes, booleans, putfield, aastore, getstatic, texts -/
set_option maxRecDepth 100000
set_option maxHeartbeats 4000000
theorem w8_i32 (x : Int32) : (x.toInt8.toInt32).toInt = w8 x.toInt := by
  rw [Int8.toInt_toInt32, Int32.toInt_toInt8, Int.bmod_def]
  unfold w8
  omega
theorem w8_ok (z : Int) : ok8 (w8 z) := by
  unfold ok8 w8
  omega
theorem w8_id {z : Int} (h : ok8 z) : w8 z = z := by
  unfold ok8 at h
  unfold w8
  omega
theorem nar8 {x : Int32} {v : Int} (e : x.toInt = v) : Int32.ofInt (w8 v) = vp_nar .byte x := by
  rw [vp_nar_byte]
  apply Int32.toInt_inj.mp
  rw [w8_i32, e]
  exact i32_to (ok8_32 (w8_ok v))
theorem narb {x : Int32} {v : Int} (e : x.toInt = v) (h : v = 0 ∨ v = 1) : Int32.ofInt v = vp_nar .boolean x := by
  have hx : x = 0 ∨ x = 1 := h.imp (fun q => Int32.toInt_inj.mp (by rw [e, q]; rfl)) (fun q => Int32.toInt_inj.mp (by rw [e, q]; rfl))
  rcases hx with rfl | rfl
  · rw [← e]; decide
  · rw [← e]; decide
theorem bo_ok {v : Int} {P : Prop} (h : bo v P) : (v = 0 ∨ v = 1) ∧ P := by
  unfold bo at h
  split at h
  · exact ⟨Or.inl rfl, h⟩
  · exact ⟨Or.inr rfl, h⟩
  · exact h
section ZJ
variable {l : Launch} {D : va_G} {tc : Nat → ClassId} {A : Nat → Prop} {ex : Nat → Nat} {σ0 : mM} {kn : Nat → Nat → Option Int}
variable {d y : Nat} {k : mC} {ls st : List mV} {σ : mM} {Aq : mA} {Bq : mB} {pc : Nat} {C : zC}
/-- a byte is stored: in the real machine narrowed -/
theorem zw_bast {p : Program} {e : Env} {R : Room} {s : State} {m : MethodId} {args : Array Value} {below : List Frame} {meth : Method} {c : Code} {ad : Nat → Nat} {H : Heap} {locs : List Loc} {cells slots : Nat} {lsR : Array Slot} {q2 : List Value} {C0 S0 : Int} {Qw : State → Prop} {i a u : Int} {v1 x1 : Int32} {r : List mV} {k0 : mC}
    (hka : ∀ a p, (shp a).1 < 100 → kn a p = none) (hc : zCt l D tc A ex σ0 p e s m args meth c y) (hz : zRl D tc A ex σ0 kn s ad σ H locs cells slots C0 S0) (hlo : zloc ad σ ls lsR) (hle : ls.length = mxL y)
    (go : zGo l D tc A ex σ0 kn y k0 p e R s m args below meth c ad σ C0 S0 Qw d Aq Bq) (hd : decode (zcoN y) pc = .ok (.bastore, 1)) {i2 : Instr} {k2 : mC} (e2 : k0 = (pc + 1, i2) :: k2)
    (hk : (shp a.toNat).1 = 3) (q : 156 ≤ a.toNat) (ha0 : 0 < a) (ha1 : a < σ 0 0) (h0 : 0 ≤ i) (h1 : i < shL σ a) (ex1 : x1.toInt = i) (hu : ok8 u) (hn : Int32.ofInt u = vp_nar .byte v1) (hst2 : zst ad σ r q2)
    (h : zReal l D tc A ex σ0 kn d y k0 ls r (ms σ a.toNat i u) Aq Bq) : W p l e R s m args below meth c H locs cells slots Qw (F0 m pc lsR (.int v1 :: .int x1 :: .ref (ad a.toNat) :: q2)) := by
  obtain ⟨hx, hb, hml, hrt, hlk, hown, hts, hK, hE, hnm, hn1, hn2⟩ := hc
  obtain ⟨⟨⟨hbl, hbh⟩, hex, hP, hD, hok, hxm, hkn⟩, hSS, hcc, hss⟩ := id hz
  have hlt : a.toNat < 372 := by omega
  have hlen := shL_of (σ := σ) (a := a) (n := 0) (zxl _ hlt (by omega))
  rw [hlen] at h1
  have hg := zW_get (tc := tc) (ad := ad) (σ := σ) q (by omega)
  have hEq : ∀ σ' : mM, zE tc ad σ' a.toNat = .inl (tc 3, (shp a.toNat).2 - 1, .inl (zi32 σ' a.toNat)) := fun σ' => by unfold zE; rw [hk]; rfl
  rw [hEq] at hg
  have hov : zok1 σ (zak (shp a.toNat).1) u := by rw [hk]; exact hu
  refine va_bast hx hb hK hP hD hSS (a.toNat - 156) 2 hg rfl (vpin ex1 h0 h1) hd (fun H1 locs1 hP1 hD1 hS1 => ?_)
  rw [zi32_upd (v := u) ex1 h0 hn, ← hEq] at hP1 hD1
  have hz1 := zHp_set hz.1 q (by omega) (fun b hb => ms_same hb) (zokc_arr (i := i) (by omega) (by rw [hk]; decide) (hok _ q (by omega)) hov) (fun pp vv hh => by rw [hka _ _ (by rw [hk]; decide)] at hh; cases hh) hP1 hD1
  have hL := zLat_ms (ad := ad) (σ := σ) (a := a.toNat) (i := i) (v := u) (by omega)
  exact go _ _ _ _ _ _ _ _ _ _ h hL (zRl_ms (by omega) hz hz1 hS1) (zloc_up hL.1 hL.2 hlo) hle (zst_up hL.1 hL.2 hst2) _ _ _ e2
theorem zc_bastore (hka : ∀ a p, (shp a).1 < 100 → kn a p = none) (hs : (pc, .bastore) :: k <:+ cd y) (ho : zokI y pc .bastore k = true) (h : sem kn C d y pc .bastore k ls st σ Aq Bq (fun k ls st σ => zReal l D tc A ex σ0 kn d y k ls st σ Aq Bq)) : zReal l D tc A ex σ0 kn d y ((pc, .bastore) :: k) ls st σ Aq Bq := by
  intro p e R s m args below meth c hc hr ad H locs cells slots lsR stR C0 S0 hC hS hz hlo hle hst Qw qa qb pc' i' k'' he _
  cases he
  have hc0 := hc
  have go := zgo_of (k := k) ((List.suffix_cons _ _).trans hs) hc hr hC hS qa qb
  obtain ⟨hx, hb, hml, hrt, hlk, hown, hts, hK, hE, hnm, hn1, hn2⟩ := hc
  obtain ⟨hd, i2, k2, e2⟩ := zdn_ok (show zdn y pc k .bastore 1 = true from ho)
  obtain ⟨⟨⟨hbl, hbh⟩, hex, hP, hD, hok, hxm, hkn⟩, hSS, hcc, hss⟩ := id hz
  unfold sem at h
  dsimp only at h
  split at h
  · rename_i v i a r
    obtain ⟨v1, q0, rfl, ev, hst0⟩ := zst_i hst
    obtain ⟨x1, q1, rfl, ex1, hst1⟩ := zst_i hst0
    obtain ⟨w, q2, rfl, hw, hst2⟩ := zst_c hst1
    obtain ⟨h155, h⟩ := chk_ok h
    have q : 156 ≤ a.toNat := Nat.le_of_ble_eq_true h155
    split at h
    · rename_i hk
      obtain ⟨⟨h8, h0, h1⟩, h⟩ := h
      have hk : (shp a.toNat).1 = 3 := hk
      obtain ⟨rfl, ha0, ha1⟩ := zref hw (by show ¬ (shp a.toNat).1 = 0; rw [hk]; decide)
      exact zw_bast hka hc0 hz hlo hle go hd e2 hk q ha0 ha1 h0 h1 ex1 h8 (by rw [← nar8 ev, w8_id h8]) hst2 h
    · rename_i hk
      obtain ⟨hbv, ⟨h0, h1⟩, h⟩ := bo_ok h
      have hk : (shp a.toNat).1 = 4 := hk
      obtain ⟨rfl, ha0, ha1⟩ := zref hw (by show ¬ (shp a.toNat).1 = 0; rw [hk]; decide)
      have hlt : a.toNat < 372 := by omega
      have hlen := shL_of (σ := σ) (a := a) (n := 0) (zxl _ hlt (by omega))
      rw [hlen] at h1
      have hg := zW_get (tc := tc) (ad := ad) (σ := σ) q (by omega)
      have hEq : ∀ σ' : mM, zE tc ad σ' a.toNat = .inl (tc 4, (shp a.toNat).2 - 1, .inl (zi32 σ' a.toNat)) := fun σ' => by unfold zE; rw [hk]; rfl
      rw [hEq] at hg
      have hov : zok1 σ (zak (shp a.toNat).1) v := by rw [hk]; exact hbv
      refine va_zast hx hb hK hP hD hSS (a.toNat - 156) 3 hg rfl (vpin ex1 h0 h1) hd (fun H1 locs1 hP1 hD1 hS1 => ?_)
      rw [zi32_upd (v := v) ex1 h0 (narb ev hbv), ← hEq] at hP1 hD1
      have hz1 := zHp_set hz.1 q (by omega) (fun b hb => ms_same hb) (zokc_arr (i := i) (by omega) (by rw [hk]; decide) (hok _ q (by omega)) hov) (fun pp vv hh => by rw [hka _ _ (by rw [hk]; decide)] at hh; cases hh) hP1 hD1
      have hL := zLat_ms (ad := ad) (σ := σ) (a := a.toNat) (i := i) (v := v) (by omega)
      exact go _ _ _ _ _ _ _ _ _ _ h hL (zRl_ms (by omega) hz hz1 hS1) (zloc_up hL.1 hL.2 hlo) hle (zst_up hL.1 hL.2 hst2) _ _ _ e2
    · exact h.elim
  · exact h.elim
theorem zc_i2b (hka : ∀ a p, (shp a).1 < 100 → kn a p = none) (hall : ∀ pc i k, (pc, i) :: k <:+ cd y → zokI y pc i k = true) (hs : (pc, .i2b) :: k <:+ cd y) (h : sem kn C d y pc .i2b k ls st σ Aq Bq (fun k ls st σ => zReal l D tc A ex σ0 kn d y k ls st σ Aq Bq)) : zReal l D tc A ex σ0 kn d y ((pc, .i2b) :: k) ls st σ Aq Bq := by
  have ho := hall _ _ _ hs
  intro p e R s m args below meth c hc hr ad H locs cells slots lsR stR C0 S0 hC hS hz hlo hle hst Qw qa qb pc' i' k'' he _
  cases he
  have hc0 := hc
  obtain ⟨hx, hb, hml, hrt, hlk, hown, hts, hK, hE, hnm, hn1, hn2⟩ := hc
  obtain ⟨hd, i2, k2, e2⟩ := zdn_ok (show zdn y pc k .i2b 1 = true from ho)
  subst e2
  unfold sem at h
  dsimp only at h
  split at h
  · rename_i v r
    obtain ⟨v1, q0, rfl, ev, hst0⟩ := zst_i hst
    refine lv_i2b hx hb hd rfl ?_
    split at h
    · rename_i pc2 k' hkk
      simp only [List.cons.injEq, Prod.mk.injEq] at hkk
      obtain ⟨⟨rfl, rfl⟩, rfl⟩ := hkk
      have hs2 : (pc + 1, Instr.bastore) :: k2 <:+ cd y := (List.suffix_cons _ _).trans hs
      obtain ⟨hd2, i3, k3, e3⟩ := zdn_ok (show zdn y (pc + 1) k2 .bastore 1 = true from hall _ _ _ hs2)
      have go := zgo_of (k := k2) ((List.suffix_cons _ _).trans hs2) hc0 hr hC hS qa qb
      split at h
      · rename_i i a r'
        obtain ⟨x1, q1, rfl, ex1, hst1⟩ := zst_i hst0
        obtain ⟨w, q2, rfl, hw, hst2⟩ := zst_c hst1
        obtain ⟨hk, ⟨h8, h0, h1⟩, h⟩ := chk_ok h
        rw [Bool.and_eq_true] at hk
        have q : 156 ≤ a.toNat := Nat.le_of_ble_eq_true hk.2
        have hk : (shp a.toNat).1 = 3 := beqN hk.1
        obtain ⟨rfl, ha0, ha1⟩ := zref hw (by show ¬ (shp a.toNat).1 = 0; rw [hk]; decide)
        have ev2 : (v1.toInt8.toInt32).toInt = v := by rw [w8_i32, ev, w8_id h8]
        exact zw_bast hka hc0 hz hlo hle go hd2 e3 hk q ha0 ha1 h0 h1 ex1 h8 (by rw [← nar8 ev2, w8_id h8]) hst2 h
      · exact h.elim
    · have go := zgo_of (k := (pc + 1, i2) :: k2) ((List.suffix_cons _ _).trans hs) hc0 hr hC hS qa qb
      exact go _ _ _ _ _ _ _ _ _ _ h zLat.rf hz hlo hle (zpi (by rw [w8_i32, ev]) hst0) _ _ _ rfl
  · exact h.elim
theorem zc_i2s (hka : ∀ a p, (shp a).1 < 100 → kn a p = none) (hall : ∀ pc i k, (pc, i) :: k <:+ cd y → zokI y pc i k = true) (hs : (pc, .i2s) :: k <:+ cd y) (h : sem kn C d y pc .i2s k ls st σ Aq Bq (fun k ls st σ => zReal l D tc A ex σ0 kn d y k ls st σ Aq Bq)) : zReal l D tc A ex σ0 kn d y ((pc, .i2s) :: k) ls st σ Aq Bq := by
  have ho := hall _ _ _ hs
  intro p e R s m args below meth c hc hr ad H locs cells slots lsR stR C0 S0 hC hS hz hlo hle hst Qw qa qb pc' i' k'' he _
  cases he
  have hc0 := hc
  obtain ⟨hx, hb, hml, hrt, hlk, hown, hts, hK, hE, hnm, hn1, hn2⟩ := hc
  obtain ⟨hd, i2, k2, e2⟩ := zdn_ok (show zdn y pc k .i2b 1 = true from ho)
  subst e2
  unfold sem at h
  dsimp only at h
  split at h
  · rename_i v i a r'
    obtain ⟨v1, q0, rfl, ev, hst0⟩ := zst_i hst
    refine lv_i2b hx hb hd rfl ?_
    split at h
    · rename_i pc2 k' hkk
      simp only [List.cons.injEq, Prod.mk.injEq] at hkk
      obtain ⟨⟨rfl, rfl⟩, rfl⟩ := hkk
      have hs2 : (pc + 1, Instr.bastore) :: k2 <:+ cd y := (List.suffix_cons _ _).trans hs
      obtain ⟨hd2, i3, k3, e3⟩ := zdn_ok (show zdn y (pc + 1) k2 .bastore 1 = true from hall _ _ _ hs2)
      have go := zgo_of (k := k2) ((List.suffix_cons _ _).trans hs2) hc0 hr hC hS qa qb
      obtain ⟨x1, q1, rfl, ex1, hst1⟩ := zst_i hst0
      obtain ⟨w, q2, rfl, hw, hst2⟩ := zst_c hst1
      obtain ⟨hk, ⟨h0, h1⟩, h⟩ := chk_ok h
      rw [Bool.and_eq_true] at hk
      have q : 156 ≤ a.toNat := Nat.le_of_ble_eq_true hk.2
      have hk : (shp a.toNat).1 = 3 := beqN hk.1
      obtain ⟨rfl, ha0, ha1⟩ := zref hw (by show ¬ (shp a.toNat).1 = 0; rw [hk]; decide)
      have ev2 : (v1.toInt8.toInt32).toInt = w8 v := by rw [w8_i32, ev]
      exact zw_bast hka hc0 hz hlo hle go hd2 e3 hk q ha0 ha1 h0 h1 ex1 (w8_ok v) (by rw [← nar8 ev2, w8_id (w8_ok v)]) hst2 h
    · exact h.elim
  · exact h.elim
end ZJ
