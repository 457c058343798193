/-! THE SIMULATION: aaload, arraylength, getfield, getstatic, texts -/
set_option maxRecDepth 100000
set_option maxHeartbeats 4000000
section ZG
variable {l : Launch} {D : va_G} {tc : Nat → ClassId} {A : Nat → Prop} {ex : Nat → Nat} {σ0 : mM} {kn : Nat → Nat → Option Int}
variable {d y : Nat} {k : mC} {ls st : List mV} {σ : mM} {Aq : mA} {Bq : mB} {pc : Nat} {C : zC}
theorem zaldq {p : Program} {e : Env} {R : Room} {s : State} {m : MethodId} {args : Array Value} {below : List Frame} {meth : Method} {c : Code} {H : Heap} {locs : List Loc} {cells slots : Nat} {Q : State → Prop} {cc : ByteArray} {lsR : Array Slot} {rest : List Value} {cl : List vw_C} {a : Nat} {tys : List (ClassId × FieldType)} {ws : va_W}
    (hexec : p.tables.exec = Jvm.exec) (hb : c.code = cc) (hK : va_K D cl tys s) (hP : va_P D cl ws H) (q0 t0 : Nat) {cA : ClassId} {ty : FieldType} (hty : ty.isReference = true) {n : Nat} {f : Nat → Option Nat} (ha : ws[q0]? = some (a, .inl (cA, n, .inr (.inr (.inr (.inr f)))))) (ht : tys[t0]? = some (cA, ty)) {i : Int32} (hin : vp_in i n) (hdg : decode cc pc = .ok (.aaload, 1))
    (kk : W p l e R s m args below meth c H locs cells slots Q (F0 m (pc + 1) lsR (va_rf (f i.toNatClampNeg) :: rest))) : W p l e R s m args below meth c H locs cells slots Q (F0 m pc lsR (.int i :: .ref a :: rest)) := by
  have hlt : i.toNatClampNeg < n := Nat.not_le.mp fun q => hin (Or.inr q)
  exact W.aald (v := va_rf (f i.toNatClampNeg)) (ty := ty) hexec hb (hP q0 _ ha) ((hK.2 t0 _ ht).1 n (fun j => va_rf (f j))) hty (fun q => by cases q) (by show ¬ (i < 0 ∨ (arrV _ _ _).slots.size ≤ _); rw [arrV_size]; exact hin) (by show (arrV _ _ _).slots[_]? = _; rw [arrV_read _ _ hlt]) rfl rfl hdg kk
theorem zc_aaload (hs : (pc, .aaload) :: k <:+ cd y) (ho : zokI y pc .aaload k = true) (h : sem kn C d y pc .aaload k ls st σ Aq Bq (fun k ls st σ => zReal l D tc A ex σ0 kn d y k ls st σ Aq Bq)) : zReal l D tc A ex σ0 kn d y ((pc, .aaload) :: k) ls st σ Aq Bq := by
  intro p e R s m args below meth c hc hr ad H locs cells slots lsR stR C0 S0 hC hS hz hlo hle hst Qw qa qb pc' i' k'' he _
  cases he
  have go := zgo_of (k := k) ((List.suffix_cons _ _).trans hs) hc hr hC hS qa qb
  obtain ⟨hx, hb, hml, hrt, hlk, hown, hts, hK, hE, hnm, hn1, hn2⟩ := hc
  obtain ⟨hd, i2, k2, e2⟩ := zdn_ok (show zdn y pc k .aaload 1 = true from ho)
  obtain ⟨⟨⟨hbl, hbh⟩, hex, hP, hD, hok, hxm, hkn⟩, hSS, hcc, hss⟩ := id hz
  unfold sem at h
  dsimp only at h
  split at h
  · rename_i i a r
    obtain ⟨x1, q1, rfl, ex1, hst1⟩ := zst_i hst
    obtain ⟨w, q2, rfl, hw, hst2⟩ := zst_c hst1
    obtain ⟨hk, ⟨h0, h1⟩, h⟩ := chk_ok h
    have hk : (shp a.toNat).1 = 5 ∨ (shp a.toNat).1 = 6 := by
      rw [Bool.or_eq_true] at hk
      exact hk.imp beqN beqN
    obtain ⟨rfl, ha0, ha1⟩ := zref hw (by show ¬ (shp a.toNat).1 = 0; omega)
    rcases Nat.lt_or_ge a.toNat 156 with q | q
    · exact absurd hk (by have := zx5 _ q; omega)
    · have hlt : a.toNat < 372 := by omega
      have hlen := shL_of (σ := σ) (a := a) (n := 0) (zxl _ hlt (by omega))
      rw [hlen] at h1
      have hg := zW_get (tc := tc) (ad := ad) (σ := σ) q (by omega)
      have hj : x1.toNatClampNeg < (shp a.toNat).2 - 1 := by have := clampI ex1 h0; simp only [Int.ofNat_eq_natCast] at this; omega
      have hv := zok_arr (by omega) (hok _ q (by omega)) hj
      have hv2 : σ a.toNat i = 0 ∨ zvd σ (σ a.toNat i) := by
        rw [clampI ex1 h0] at hv
        rcases hk with hk | hk <;> (rw [hk] at hv; exact hv)
      have hval : zval ad σ (2, σ a.toNat i) (va_rf (zrf ad σ a.toNat x1.toNatClampNeg)) := by
        unfold zrf
        rw [clampI ex1 h0]
        rcases hv2 with e0 | e0
        · rw [if_pos e0]; exact Or.inl ⟨e0, rfl⟩
        · rw [if_neg (fun q => by have := e0.1; omega)]; exact Or.inr ⟨e0, rfl⟩
      rcases hk with hk | hk
      · have hEq : zE tc ad σ a.toNat = .inl (tc 5, (shp a.toNat).2 - 1, .inr (.inr (.inr (.inr (zrf ad σ a.toNat))))) := by unfold zE; rw [hk]; rfl
        rw [hEq] at hg
        exact zaldq hx hb hK hP (a.toNat - 156) 4 rfl hg rfl (vpin ex1 h0 h1) hd (go _ _ _ _ _ _ _ _ _ _ h zLat.rf hz hlo hle (zpv hval hst2) _ _ _ e2)
      · have hEq : zE tc ad σ a.toNat = .inl (tc 6, (shp a.toNat).2 - 1, .inr (.inr (.inr (.inr (zrf ad σ a.toNat))))) := by unfold zE; rw [hk]; rfl
        rw [hEq] at hg
        exact zaldq hx hb hK hP (a.toNat - 156) 5 rfl hg rfl (vpin ex1 h0 h1) hd (go _ _ _ _ _ _ _ _ _ _ h zLat.rf hz hlo hle (zpv hval hst2) _ _ _ e2)
  · exact h.elim
theorem zc_arraylength (hs : (pc, .arraylength) :: k <:+ cd y) (ho : zokI y pc .arraylength k = true) (h : sem kn C d y pc .arraylength k ls st σ Aq Bq (fun k ls st σ => zReal l D tc A ex σ0 kn d y k ls st σ Aq Bq)) : zReal l D tc A ex σ0 kn d y ((pc, .arraylength) :: k) ls st σ Aq Bq := by
  intro p e R s m args below meth c hc hr ad H locs cells slots lsR stR C0 S0 hC hS hz hlo hle hst Qw qa qb pc' i' k'' he _
  cases he
  have go := zgo_of (k := k) ((List.suffix_cons _ _).trans hs) hc hr hC hS qa qb
  obtain ⟨hx, hb, hml, hrt, hlk, hown, hts, hK, hE, hnm, hn1, hn2⟩ := hc
  obtain ⟨hd, i2, k2, e2⟩ := zdn_ok (show zdn y pc k .arraylength 1 = true from ho)
  obtain ⟨⟨⟨hbl, hbh⟩, hex, hP, hD, hok, hxm, hkn⟩, hSS, hcc, hss⟩ := id hz
  unfold sem at h
  dsimp only at h
  split at h
  · rename_i a r
    obtain ⟨w, q2, rfl, hw, hst2⟩ := zst_c hst
    obtain ⟨hk, h⟩ := chk_ok h
    rw [Bool.and_eq_true] at hk
    have hk1 : 0 < (shp a.toNat).1 := Nat.le_of_ble_eq_true hk.1
    have hk2 : (shp a.toNat).1 < 7 := Nat.le_of_ble_eq_true hk.2
    obtain ⟨rfl, ha0, ha1⟩ := zref hw (by show ¬ (shp a.toNat).1 = 0; omega)
    have hlt : a.toNat < 372 := by omega
    by_cases ha2 : a.toNat = 1
    · obtain rfl : a = 1 := by omega
      obtain ⟨⟨L, xs, hX, hXl, hXA, hL, hL1, hxs⟩, -⟩ := hE
      have hlen : shL σ 1 = L := by
        show σ 1 (-1) = L
        rw [hxm 1 (-1) (by decide) (by decide), hL1]
      have had : ad (1 : Int).toNat = ex 1 := hex 1 (by decide)
      rw [had]
      refine va_slen hx hb hX hXl hXA hSS hd (go _ _ _ _ _ _ _ _ _ _ h zLat.rf hz hlo hle (zpi ?_ hst2) _ _ _ e2)
      rw [hlen]
      exact nI_toInt (by omega)
    · have hlen := shL_of (σ := σ) (a := a) (n := 0) (zxl _ hlt (by omega))
      have hsm : (shp a.toNat).2 - 1 < 2 ^ 31 := by
        have : ∀ a, a < 372 → (shp a).2 - 1 < 2 ^ 31 := by decide +kernel
        exact this _ hlt
      have hgo := fun {X : Int32} (hX : X = nI ((shp a.toNat).2 - 1)) => go _ _ _ _ _ _ _ _ _ _ h zLat.rf hz hlo hle (zpi (x := X) (by rw [hX, hlen]; exact nI_toInt hsm) hst2) _ _ _ e2
      rcases Nat.lt_or_ge a.toNat 156 with q | q
      · have hk3 : (shp a.toNat).1 = 3 := by
          have q1 := zx2 _ q
          have q2 := zx4 _ q
          have q3 := zx5 _ q
          have q4 : ¬ (shp a.toNat).1 = 1 := fun h => ha2 (zx1 _ q h)
          omega
        obtain ⟨hp1, hp2⟩ := zx3 _ q hk3
        obtain ⟨j, hj1, hj2⟩ : ∃ j, j < 77 ∧ a.toNat = 3 + 2 * j := ⟨(a.toNat - 3) / 2, by omega, by omega⟩
        obtain ⟨-, hstr, -⟩ := hE
        obtain ⟨-, -, -, hT, -, -, hb8⟩ := hstr j hj1
        rw [← hj2] at hT
        have had : ad a.toNat = ex a.toNat := hex _ q
        rw [had]
        exact va_tlen hx hb hT hSS rfl hd (hgo rfl)
      · have hg := zW_get (tc := tc) (ad := ad) (σ := σ) q (by omega)
        have hcs : ∃ (j : Nat) (x : vp_A) (ty : FieldType), zE tc ad σ a.toNat = .inl (tc (shp a.toNat).1, x) ∧ x.1 = (shp a.toNat).2 - 1 ∧ (ztys tc)[j]? = some (tc (shp a.toNat).1, ty) := by
          unfold zE
          have : (shp a.toNat).1 = 1 ∨ (shp a.toNat).1 = 2 ∨ (shp a.toNat).1 = 3 ∨ (shp a.toNat).1 = 4 ∨ (shp a.toNat).1 = 5 ∨ (shp a.toNat).1 = 6 := by omega
          rcases this with hk | hk | hk | hk | hk | hk <;> rw [hk]
          · exact ⟨0, _, _, rfl, rfl, rfl⟩
          · exact ⟨1, _, _, rfl, rfl, rfl⟩
          · exact ⟨2, _, _, rfl, rfl, rfl⟩
          · exact ⟨3, _, _, rfl, rfl, rfl⟩
          · exact ⟨4, _, _, rfl, rfl, rfl⟩
          · exact ⟨5, _, _, rfl, rfl, rfl⟩
        obtain ⟨j, x, ty, c1, c2, c3⟩ := hcs
        rw [c1] at hg
        exact va_alen hx hb hK hP (a.toNat - 156) j hg c3 rfl hd (hgo (by rw [c2]; rfl))
  · exact h.elim
/-- a field's value -/
theorem zfv_val {ad : Nat → Nat} {t : FieldType} {z : Int} (h : zok1 σ (zfk t) z) : zval ad σ (match zfk t with | 3 => 0 | q => q, z) (zfv ad (zfk t) z) := by
  have hc : zfk t = 0 ∨ zfk t = 1 ∨ zfk t = 2 ∨ zfk t = 3 := by cases t <;> simp [zfk]
  rcases hc with e | e | e | e <;> rw [e] at h ⊢
  · exact ⟨_, rfl, i32_to h⟩
  · exact ⟨_, rfl, i64_to h⟩
  · rcases h with rfl | h
    · exact Or.inl ⟨rfl, rfl⟩
    · refine Or.inr ⟨h, ?_⟩
      show (if z = 0 then Value.null else .ref (ad z.toNat)) = _
      rw [if_neg (fun q => by have := h.1; omega)]
  · exact ⟨_, rfl, i32_to (okb_32 h)⟩
theorem zfs_get {ad : Nat → Nat} {a ci n j : Nat} (h : j < n) : (zfs ad σ a ci n)[j]? = some (zfv ad (zfk (zTy ci j)) (σ a (Int.ofNat j))) := by
  unfold zfs
  rw [List.getElem?_map, List.getElem?_range h]
  rfl
/-- what the tables say of a field's kind -/
def zfld (q : Nat) : Bool := match zcls[q / 1024]? with
  | some r => Nat.blt (q / 4 % 256) r.2.2 && Nat.beq (zfk (zTy (q / 1024) (q / 4 % 256))) (q % 4)
  | none => false
theorem zR_cls : ∀ (ci : Nat) (r : vw_C), 1 ≤ ci → zcls[ci]? = some r → zR ci = r.1
  | 0, _, h, _ => by omega
  | 1, _, _, h => by cases h; rfl
  | 2, _, _, h => by cases h; rfl
  | 3, _, _, h => by cases h; rfl
  | 4, _, _, h => by cases h; rfl
  | 5, _, _, h => by cases h; rfl
  | 6, _, _, h => by cases h; rfl
  | 7, _, _, h => by cases h; rfl
  | 8, _, _, h => by cases h; rfl
  | 9, _, _, h => by cases h; rfl
  | 10, _, _, h => by cases h; rfl
  | 11, _, _, h => by cases h; rfl
  | 12, _, _, h => by cases h; rfl
  | 13, _, _, h => by cases h; rfl
  | 14, _, _, h => by cases h; rfl
  | 15, _, _, h => by cases h; rfl
  | 16, _, _, h => by cases h; rfl
  | 17, _, _, h => by cases h; rfl
  | n + 18, _, _, h => by simp [zcls] at h
theorem zown : ∀ (ci : Nat) (r : vw_C), zcls[ci]? = some r → ∀ j, j < r.2.2 → (r.2.1 j).1 = r.1 := by
  intro ci r h j hj
  have : ∀ ci, ci < 18 → ∀ j, j < (zcls.getD ci (RX1, TX1, 17)).2.2 → ((zcls.getD ci (RX1, TX1, 17)).2.1 j).1 = (zcls.getD ci (RX1, TX1, 17)).1 := by decide +kernel
  have hl : ci < 18 := (List.getElem?_eq_some_iff.mp h).1
  have hg : zcls.getD ci (RX1, TX1, 17) = r := by rw [List.getD_eq_getElem?_getD, h]; rfl
  have := this ci hl
  rw [hg] at this
  exact this j hj
end ZG
