/-! THE SIMULATION: stores into arrays -/
set_option maxRecDepth 100000
set_option maxHeartbeats 4000000
section ZI
variable {l : Launch} {D : va_G} {tc : Nat → ClassId} {A : Nat → Prop} {ex : Nat → Nat} {σ0 : mM} {kn : Nat → Nat → Option Int}
variable {d y : Nat} {k : mC} {ls st : List mV} {σ : mM} {Aq : mA} {Bq : mB} {pc : Nat} {C : zC}
theorem zE_congr {ad : Nat → Nat} {σ σ' : mM} {b : Nat} (h : σ' b = σ b) : zE tc ad σ' b = zE tc ad σ b := by
  unfold zE zi32 zi64 zrf zfs
  simp only [h]
theorem zW_set {ad : Nat → Nat} {σ σ' : mM} {a n : Nat} (ha : 156 ≤ a) (h : ∀ b, b ≠ a → σ' b = σ b) : (zW tc ad σ n).set (a - 156) (ad a, zE tc ad σ' a) = zW tc ad σ' n := by
  apply List.ext_getElem?
  intro j
  rw [List.getElem?_set]
  split
  · rename_i hj
    subst hj
    have h4 : 156 + (a - 156) = a := by omega
    unfold zW
    rw [List.length_map, List.length_range, List.getElem?_map]
    split
    · rename_i q
      rw [List.getElem?_range q]
      simp only [Option.map_some, h4]
    · rename_i q
      rw [List.getElem?_eq_none (by simp; omega)]
      rfl
  · rename_i hj
    unfold zW
    rw [List.getElem?_map, List.getElem?_map]
    cases hr : (List.range n)[j]? with
    | none => rfl
    | some b =>
      obtain ⟨hl, hb⟩ := List.getElem?_eq_some_iff.mp hr
      simp only [List.getElem_range] at hb
      subst hb
      simp only [Option.map_some]
      rw [zE_congr (h _ (by omega))]
theorem ms_same {a : Nat} {i v : Int} {b : Nat} (h : b ≠ a) : ms σ a i v b = σ b := by
  funext j
  unfold ms
  rw [if_neg (fun q => h q.1)]
theorem ms_at {a : Nat} {i v : Int} : ms σ a i v a i = v := by
  unfold ms
  rw [if_pos ⟨rfl, rfl⟩]
theorem ms_ne {a : Nat} {i v j : Int} (h : j ≠ i) : ms σ a i v a j = σ a j := by
  unfold ms
  rw [if_neg (fun q => h q.2)]
theorem zok1_up {σ σ' : mM} {k : Nat} {z : Int} (h0 : σ 0 0 ≤ σ' 0 0) (h : zok1 σ k z) : zok1 σ' k z := by
  unfold zok1 zvd at h ⊢
  split at h
  · exact h
  · exact h
  · rcases h with h | h
    · exact Or.inl h
    · exact Or.inr ⟨h.1, by omega⟩
  · exact h
  · exact h
theorem zokc_congr {σ σ' : mM} {b : Nat} (h0 : σ 0 0 ≤ σ' 0 0) (h : σ' b = σ b) (hb : zokc σ b) : zokc σ' b := by
  unfold zokc at hb ⊢
  split at hb
  · intro j hj
    rw [h]
    exact zok1_up h0 (hb j hj)
  · intro j hj
    rw [h]
    exact zok1_up h0 (hb j hj)
/-- a cell is written -/
theorem zHp_set {ad : Nat → Nat} {H H1 : Heap} {σ' : mM} {a : Nat} (hz : zHp D tc A ex σ0 kn ad σ H) (ha : 156 ≤ a) (hb : (a : Int) < σ 0 0) (h : ∀ b, b ≠ a → σ' b = σ b) (hc : zokc σ' a) (hk : ∀ (p : Nat) (v : Int), kn a p = some v → σ' a (Int.ofNat p) = v)
    (hP : va_P D zcls ((zW tc ad σ ((σ 0 0).toNat - 156)).set (a - 156) (ad a, zE tc ad σ' a)) H1) (hD : va_D A ((zW tc ad σ ((σ 0 0).toNat - 156)).set (a - 156) (ad a, zE tc ad σ' a))) : zHp D tc A ex σ0 kn ad σ' H1 := by
  obtain ⟨h1, h2, h3, h4, h5, h6, h7⟩ := hz
  have h0 : σ' 0 = σ 0 := h 0 (by omega)
  rw [zW_set ha h] at hP hD
  refine ⟨by rw [h0]; exact h1, h2, by rw [h0]; exact hP, by rw [h0]; exact hD, fun b q1 q2 => ?_, fun b j q1 q2 => ?_, fun b p v q => ?_⟩
  · by_cases e : b = a
    · subst e; exact hc
    · exact zokc_congr (by rw [h0]; exact Int.le_refl _) (h b e) (h5 b q1 (by rw [h0] at q2; exact q2))
  · rw [h b (by omega)]
    exact h6 b j q1 q2
  · by_cases e : b = a
    · subst e; exact hk p v q
    · rw [h b e]; exact h7 b p v q
theorem zLat_ms {ad : Nat → Nat} {a : Nat} {i v : Int} (h : a ≠ 0) : zLat ad σ ad (ms σ a i v) := ⟨by rw [ms_same (fun q => h q.symm)]; exact Int.le_refl _, fun _ _ => rfl⟩
theorem zokc_arr {a : Nat} {i v : Int} (ha : a ≠ 0) (hk : (shp a).1 < 100) (h : zokc σ a) (hv : zok1 σ (zak (shp a).1) v) : zokc (ms σ a i v) a := by
  have h0 : ms σ a i v 0 = σ 0 := ms_same (fun q => ha q.symm)
  have hb : Nat.blt (shp a).1 100 = true := Nat.ble_eq_true_of_le hk
  unfold zokc
  rw [hb]
  intro j hj
  by_cases e : (Int.ofNat j) = i
  · rw [e, ms_at]
    exact zok1_up (by rw [h0]; exact Int.le_refl _) hv
  · rw [ms_ne e]
    exact zok1_up (by rw [h0]; exact Int.le_refl _) (zok_arr hk h hj)
theorem zi32_upd {a : Nat} {i v : Int} {x : Int32} {w : Int32} (e : x.toInt = i) (h0 : 0 ≤ i) (hv : Int32.ofInt v = w) : upd (zi32 σ a) x.toNatClampNeg w = zi32 (ms σ a i v) a := by
  funext j
  unfold upd zi32
  have hc := clampI e h0
  split
  · rename_i q
    subst q
    rw [hc, ms_at, hv]
  · rename_i q
    rw [ms_ne]
    intro q2
    apply q
    rw [← hc] at q2
    exact Int.ofNat.inj q2
theorem zi64_upd {a : Nat} {i v : Int} {x : Int32} {w : Int64} (e : x.toInt = i) (h0 : 0 ≤ i) (hv : Int64.ofInt v = w) : vp_updL (zi64 σ a) x.toNatClampNeg w = zi64 (ms σ a i v) a := by
  funext j
  unfold vp_updL zi64
  have hc := clampI e h0
  split
  · rename_i q
    subst q
    rw [hc, ms_at, hv]
  · rename_i q
    rw [ms_ne]
    intro q2
    apply q
    rw [← hc] at q2
    exact Int.ofNat.inj q2
/-- behind a store: cells and places are counted as before -/
theorem zRl_ms {s : State} {ad : Nat → Nat} {H H1 : Heap} {locs locs1 : List Loc} {cells slots : Nat} {C0 S0 : Int} {a : Nat} {i v : Int} (ha : a ≠ 0) (hz : zRl D tc A ex σ0 kn s ad σ H locs cells slots C0 S0) (hp : zHp D tc A ex σ0 kn ad (ms σ a i v) H1) (hS : va_S A s.heap H1 locs1) : zRl D tc A ex σ0 kn s ad (ms σ a i v) H1 locs1 cells slots C0 S0 := by
  have h0 : ms σ a i v 0 = σ 0 := ms_same (fun q => ha q.symm)
  exact ⟨hp, hS, by rw [h0]; exact hz.2.2.1, by rw [h0]; exact hz.2.2.2⟩
theorem zc_iastore (hka : ∀ a p, (shp a).1 < 100 → kn a p = none) (hs : (pc, .iastore) :: k <:+ cd y) (ho : zokI y pc .iastore k = true) (h : sem kn C d y pc .iastore k ls st σ Aq Bq (fun k ls st σ => zReal l D tc A ex σ0 kn d y k ls st σ Aq Bq)) : zReal l D tc A ex σ0 kn d y ((pc, .iastore) :: k) ls st σ Aq Bq := by
  intro p e R s m args below meth c hc hr ad H locs cells slots lsR stR C0 S0 hC hS hz hlo hle hst Qw qa qb pc' i' k'' he _
  cases he
  have go := zgo_of (k := k) ((List.suffix_cons _ _).trans hs) hc hr hC hS qa qb
  obtain ⟨hx, hb, hml, hrt, hlk, hown, hts, hK, hE, hnm, hn1, hn2⟩ := hc
  obtain ⟨hd, i2, k2, e2⟩ := zdn_ok (show zdn y pc k .iastore 1 = true from ho)
  obtain ⟨⟨⟨hbl, hbh⟩, hex, hP, hD, hok, hxm, hkn⟩, hSS, hcc, hss⟩ := id hz
  unfold sem at h
  dsimp only at h
  split at h
  · rename_i v i a r
    obtain ⟨v1, q0, rfl, ev, hst0⟩ := zst_i hst
    obtain ⟨x1, q1, rfl, ex1, hst1⟩ := zst_i hst0
    obtain ⟨w, q2, rfl, hw, hst2⟩ := zst_c hst1
    obtain ⟨hk, ⟨h0, h1⟩, h⟩ := chk_ok h
    rw [Bool.and_eq_true] at hk
    obtain ⟨hk, h155⟩ := hk
    have hk : (shp a.toNat).1 = 1 := beqN hk
    have q : 156 ≤ a.toNat := Nat.le_of_ble_eq_true h155
    obtain ⟨rfl, ha0, ha1⟩ := zref hw (by show ¬ (shp a.toNat).1 = 0; rw [hk]; decide)
    have hlt : a.toNat < 372 := by omega
    have hlen := shL_of (σ := σ) (a := a) (n := 0) (zxl _ hlt (by omega))
    rw [hlen] at h1
    have hg := zW_get (tc := tc) (ad := ad) (σ := σ) q (by omega)
    have hEq : ∀ σ' : mM, zE tc ad σ' a.toNat = .inl (tc 1, (shp a.toNat).2 - 1, .inl (zi32 σ' a.toNat)) := fun σ' => by unfold zE; rw [hk]; rfl
    rw [hEq] at hg
    have hov : zok1 σ (zak (shp a.toNat).1) v := by rw [hk]; exact ev ▸ i32_ok v1
    refine va_iast hx hb hK hP hD hSS (a.toNat - 156) 0 hg rfl (vpin ex1 h0 h1) hd (fun H1 locs1 hP1 hD1 hS1 => ?_)
    rw [zi32_upd (v := v) ex1 h0 (by rw [← ev]; exact i32_of v1), ← hEq] at hP1 hD1
    have hz1 := zHp_set hz.1 q (by omega) (fun b hb => ms_same hb) (zokc_arr (i := i) (by omega) (by rw [hk]; decide) (hok _ q (by omega)) hov) (fun pp vv hh => by rw [hka _ _ (by rw [hk]; decide)] at hh; cases hh) hP1 hD1
    have hL := zLat_ms (ad := ad) (σ := σ) (a := a.toNat) (i := i) (v := v) (by omega)
    exact go _ _ _ _ _ _ _ _ _ _ h hL (zRl_ms (by omega) hz hz1 hS1) (zloc_up hL.1 hL.2 hlo) hle (zst_up hL.1 hL.2 hst2) _ _ _ e2
  · exact h.elim
theorem zc_lastore (hka : ∀ a p, (shp a).1 < 100 → kn a p = none) (hs : (pc, .lastore) :: k <:+ cd y) (ho : zokI y pc .lastore k = true) (h : sem kn C d y pc .lastore k ls st σ Aq Bq (fun k ls st σ => zReal l D tc A ex σ0 kn d y k ls st σ Aq Bq)) : zReal l D tc A ex σ0 kn d y ((pc, .lastore) :: k) ls st σ Aq Bq := by
  intro p e R s m args below meth c hc hr ad H locs cells slots lsR stR C0 S0 hC hS hz hlo hle hst Qw qa qb pc' i' k'' he _
  cases he
  have go := zgo_of (k := k) ((List.suffix_cons _ _).trans hs) hc hr hC hS qa qb
  obtain ⟨hx, hb, hml, hrt, hlk, hown, hts, hK, hE, hnm, hn1, hn2⟩ := hc
  obtain ⟨hd, i2, k2, e2⟩ := zdn_ok (show zdn y pc k .lastore 1 = true from ho)
  obtain ⟨⟨⟨hbl, hbh⟩, hex, hP, hD, hok, hxm, hkn⟩, hSS, hcc, hss⟩ := id hz
  unfold sem at h
  dsimp only at h
  split at h
  · rename_i v i a r
    obtain ⟨v1, q0, rfl, ev, hst0⟩ := zst_l hst
    obtain ⟨x1, q1, rfl, ex1, hst1⟩ := zst_i hst0
    obtain ⟨w, q2, rfl, hw, hst2⟩ := zst_c hst1
    obtain ⟨hk, ⟨h0, h1⟩, h⟩ := chk_ok h
    rw [Bool.and_eq_true] at hk
    obtain ⟨hk, h155⟩ := hk
    have hk : (shp a.toNat).1 = 2 := beqN hk
    have q : 156 ≤ a.toNat := Nat.le_of_ble_eq_true h155
    obtain ⟨rfl, ha0, ha1⟩ := zref hw (by show ¬ (shp a.toNat).1 = 0; rw [hk]; decide)
    have hlt : a.toNat < 372 := by omega
    have hlen := shL_of (σ := σ) (a := a) (n := 0) (zxl _ hlt (by omega))
    rw [hlen] at h1
    have hg := zW_get (tc := tc) (ad := ad) (σ := σ) q (by omega)
    have hEq : ∀ σ' : mM, zE tc ad σ' a.toNat = .inl (tc 2, (shp a.toNat).2 - 1, .inr (.inl (zi64 σ' a.toNat))) := fun σ' => by unfold zE; rw [hk]; rfl
    rw [hEq] at hg
    have hov : zok1 σ (zak (shp a.toNat).1) v := by rw [hk]; exact ev ▸ i64_ok v1
    refine va_last hx hb hK hP hD hSS (a.toNat - 156) 1 hg rfl (vpin ex1 h0 h1) hd (fun H1 locs1 hP1 hD1 hS1 => ?_)
    rw [zi64_upd (v := v) ex1 h0 (by rw [← ev]; exact i64_of v1), ← hEq] at hP1 hD1
    have hz1 := zHp_set hz.1 q (by omega) (fun b hb => ms_same hb) (zokc_arr (i := i) (by omega) (by rw [hk]; decide) (hok _ q (by omega)) hov) (fun pp vv hh => by rw [hka _ _ (by rw [hk]; decide)] at hh; cases hh) hP1 hD1
    have hL := zLat_ms (ad := ad) (σ := σ) (a := a.toNat) (i := i) (v := v) (by omega)
    exact go _ _ _ _ _ _ _ _ _ _ h hL (zRl_ms (by omega) hz hz1 hS1) (zloc_up hL.1 hL.2 hlo) hle (zst_up hL.1 hL.2 hst2) _ _ _ e2
  · exact h.elim
end ZI
