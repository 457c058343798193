/-! THE SIMULATION: putfield -/
set_option maxRecDepth 100000
set_option maxHeartbeats 4000000
/-- final fields are written in their class's constructors alone -/
def zput (y q : Nat) : Bool := match zcls[q / 1024]? with
  | some r => (!(r.2.1 (q / 4 % 256)).2.2.2) || (Nat.beq (mcl y) (q / 1024) && decide ((zyN y).name = "<init>"))
  | none => false
def zputI (y : Nat) (i : Instr) : Bool := match i with
  | .putfield q => zput y q
  | _ => true
theorem zputT : (List.range 462).all (fun y => (cd y).all (fun p => zputI y p.2)) = true := by decide +kernel
theorem cd_big {y : Nat} (h : 462 ≤ y) : cd y = [] := by
  unfold cd
  rw [List.getD_eq_getElem?_getD]
  cases h2 : cdT[y / 32]? with
  | none =>
    have : cdT.getD (y / 32) [] = [] := by rw [List.getD_eq_getElem?_getD, h2]; rfl
    rw [this]
    rfl
  | some l =>
    have h1 : y / 32 < 15 := by
      have := (List.getElem?_eq_some_iff.mp h2).1
      exact this
    have h3 : y / 32 = 14 := by omega
    have : cdT.getD (y / 32) [] = cdK_14 := by rw [h3]; rfl
    rw [this, List.getElem?_eq_none]
    · rfl
    · show cdK_14.length ≤ y % 32
      have : cdK_14.length = 14 := rfl
      omega
theorem zput_all {y pc : Nat} {i : Instr} {k : mC} (h : (pc, i) :: k <:+ cd y) : zputI y i = true := by
  have hm : (pc, i) ∈ cd y := h.subset List.mem_cons_self
  have hy : y < 462 := by
    rcases Nat.lt_or_ge y 462 with q | q
    · exact q
    · rw [cd_big q] at hm; cases hm
  have h1 := List.all_eq_true.mp zputT y (List.mem_range.mpr hy)
  exact List.all_eq_true.mp h1 _ hm
theorem zFN_ne : ∀ t ∈ zFN, ¬ t.1 = t.2.2.1 := by
  have : zFN.all (fun t => !Nat.beq t.1 t.2.2.1) = true := by decide +kernel
  intro t ht e
  have := List.all_eq_true.mp this t ht
  rw [e] at this
  simp at this
theorem zTy_cs : ∀ ci, ci < 18 → ∀ j, j < (zcls.getD ci (RX1, TX1, 17)).2.2 → zTy ci j = .int ∨ zTy ci j = .long ∨ zTy ci j = .boolean ∨ zfk (zTy ci j) = 2 := by decide +kernel
section ZK
variable {l : Launch} {D : va_G} {tc : Nat → ClassId} {A : Nat → Prop} {ex : Nat → Nat} {σ0 : mM} {kn : Nat → Nat → Option Int}
variable {d y : Nat} {k : mC} {ls st : List mV} {σ : mM} {Aq : mA} {Bq : mB} {pc : Nat} {C : zC}
theorem wrf_F {a q : Nat} {v : Int} {F : mM → Prop} (hkn : ∀ (a p : Nat) (v : Int), kn a p = some v → σ a (Int.ofNat p) = v) (h : wrf kn σ a q v F) : F (ms σ a (Int.ofNat q) v) ∧ ∀ u, kn a q = some u → v = u := by
  unfold wrf at h
  split at h
  · rename_i w hw
    refine ⟨?_, fun u hu => ?_⟩
    · have : ms σ a (Int.ofNat q) v = σ := by
        funext b j
        unfold ms
        split
        · rename_i e
          rw [e.1, e.2, hkn _ _ _ hw]
          exact h.1
        · rfl
      rw [this]
      exact h.2
    · rw [hw] at hu
      rw [h.1]
      exact Option.some.inj hu
  · rename_i hw
    exact ⟨h, fun u hu => by rw [hw] at hu; cases hu⟩
theorem zfs_set {ad : Nat → Nat} {a ci n j : Nat} {v : Int} (h : j < n) : (zfs ad σ a ci n).set j (zfv ad (zfk (zTy ci j)) v) = zfs ad (ms σ a (Int.ofNat j) v) a ci n := by
  apply List.ext_getElem?
  intro i
  rw [List.getElem?_set]
  unfold zfs
  rw [List.length_map, List.length_range]
  split
  · rename_i e
    subst e
    first | rw [if_pos h] | skip
    rw [List.getElem?_map, List.getElem?_range h]
    simp only [Option.map_some, ms_at]
  · rename_i e
    rw [List.getElem?_map, List.getElem?_map]
    cases hr : (List.range n)[i]? with
    | none => rfl
    | some b =>
      obtain ⟨hl, hb⟩ := List.getElem?_eq_some_iff.mp hr
      simp only [List.getElem_range] at hb
      subst hb
      simp only [Option.map_some]
      rw [ms_ne (fun q => e (Int.ofNat.inj q).symm)]
theorem zokc_obj {a j : Nat} {v : Int} (ha : a ≠ 0) (hk : 100 ≤ (shp a).1) (h : zokc σ a) (hv : zok1 σ (zfk (zTy ((shp a).1 - 100) j)) v) : zokc (ms σ a (Int.ofNat j) v) a := by
  have h0 : ms σ a (Int.ofNat j) v 0 = σ 0 := ms_same (fun q => ha q.symm)
  have hb : Nat.blt (shp a).1 100 = false := by
    cases hq : Nat.blt (shp a).1 100 with
    | false => rfl
    | true => have := Nat.le_of_ble_eq_true hq; omega
  unfold zokc
  rw [hb]
  intro i hi
  by_cases e : i = j
  · subst e
    rw [ms_at]
    exact zok1_up (by rw [h0]; exact Int.le_refl _) hv
  · rw [ms_ne (fun q => e (Int.ofNat.inj q))]
    exact zok1_up (by rw [h0]; exact Int.le_refl _) (zok_obj hk h hi)
theorem zc_putfield {q : Nat} (hs : (pc, .putfield q) :: k <:+ cd y) (ho : zokI y pc (.putfield q) k = true) (h : sem kn C d y pc (.putfield q) k ls st σ Aq Bq (fun k ls st σ => zReal l D tc A ex σ0 kn d y k ls st σ Aq Bq)) : zReal l D tc A ex σ0 kn d y ((pc, .putfield q) :: k) ls st σ Aq Bq := by
  have hfl := zfld_all hs
  have hpu := zput_all hs
  intro p e R s m args below meth c hc hr ad H locs cells slots lsR stR C0 S0 hC hS hz hlo hle hst Qw qa qb pc' i' k'' he _
  cases he
  have go := zgo_of (k := k) ((List.suffix_cons _ _).trans hs) hc hr hC hS qa qb
  obtain ⟨hx, hb, hml, hrt, hlk, hown, hts, hK, hE, hnm, hn1, hn2⟩ := hc
  obtain ⟨⟨⟨hbl, hbh⟩, hex, hP, hD, hok, hxm, hkn⟩, hSS, hcc, hss⟩ := id hz
  unfold zokI at ho
  dsimp only at ho
  split at ho
  · rename_i j n hd
    simp only [Bool.and_eq_true] at ho
    obtain ⟨⟨hn, hq⟩, hlinks⟩ := ho
    obtain rfl := beqN hn
    obtain ⟨i2, k2, e2⟩ := nxb_ok hq
    unfold sem at h
    dsimp only at h
    split at h
    · rename_i t v a r
      obtain ⟨w0, q0, rfl, hw0, hst1⟩ := zst_c hst
      obtain ⟨w, q2, rfl, hw, hst2⟩ := zst_c hst1
      obtain ⟨hk, h⟩ := chk_ok h
      rw [Bool.and_eq_true, Bool.and_eq_true] at hk
      obtain ⟨⟨hk, htt⟩, h155⟩ := hk
      have qa1 : 156 ≤ a.toNat := Nat.le_of_ble_eq_true h155
      have hk : (shp a.toNat).1 = 100 + q / 1024 := beqN hk
      have htt : t = fldT q := beqN htt
      obtain ⟨rfl, ha0, ha1⟩ := zref hw (by show ¬ (shp a.toNat).1 = 0; omega)
      have hlt : a.toNat < 372 := by omega
      obtain ⟨hl18, rc, hr1, hr2⟩ := zxo _ hlt qa1 (by omega)
      have hci : (shp a.toNat).1 - 100 = q / 1024 := by omega
      rw [hci] at hl18 hr1
      have hzf : zfld q = true := hfl
      unfold zfld at hzf
      rw [hr1] at hzf
      dsimp only at hzf
      rw [Bool.and_eq_true] at hzf
      have hpos : q / 4 % 256 < rc.2.2 := Nat.le_of_ble_eq_true hzf.1
      have hkd : zfk (zTy (q / 1024) (q / 4 % 256)) = q % 4 := beqN hzf.2
      have hgd : zcls.getD (q / 1024) (RX1, TX1, 17) = rc := by rw [List.getD_eq_getElem?_getD, hr1]; rfl
      have hcs := zTy_cs (q / 1024) hl18 (q / 4 % 256) (by rw [hgd]; exact hpos)
      have hmain : (zok1 σ (q % 4) v ∧ w0 = zfv ad (q % 4) v ∧ narrow (zTy (q / 1024) (q / 4 % 256)) w0 = w0 ∧ fits (zTy (q / 1024) (q / 4 % 256)) w0 = true) ∧ wrf kn σ a.toNat (q / 4 % 256) v (fun σ' => zReal l D tc A ex σ0 kn d y k ls r σ' Aq Bq) := by
        have hbo : (q % 4 = 3 → v = 0 ∨ v = 1) ∧ wrf kn σ a.toNat (q / 4 % 256) v (fun σ' => zReal l D tc A ex σ0 kn d y k ls r σ' Aq Bq) := by
          split at h
          · have := bo_ok h; exact ⟨fun _ => this.1, this.2⟩
          · rename_i hne; exact ⟨fun q3 => absurd q3 hne, h⟩
        refine ⟨?_, hbo.2⟩
        rcases hcs with hT | hT | hT | hT
        · have e4 : q % 4 = 0 := by rw [← hkd, hT]; rfl
          have ht0 : t = 0 := by rw [htt]; unfold fldT; rw [e4]; rfl
          subst ht0
          obtain ⟨x0, rfl, ex0⟩ := hw0
          rw [e4, hT]
          refine ⟨ex0 ▸ i32_ok x0, ?_, rfl, rfl⟩
          show Value.int x0 = .int (Int32.ofInt v)
          rw [← ex0, i32_of]
        · have e4 : q % 4 = 1 := by rw [← hkd, hT]; rfl
          have ht0 : t = 1 := by rw [htt]; unfold fldT; rw [e4]; rfl
          subst ht0
          obtain ⟨x0, rfl, ex0⟩ := hw0
          rw [e4, hT]
          refine ⟨ex0 ▸ i64_ok x0, ?_, rfl, rfl⟩
          show Value.long x0 = .long (Int64.ofInt v)
          rw [← ex0, i64_of]
        · have e4 : q % 4 = 3 := by rw [← hkd, hT]; rfl
          have ht0 : t = 0 := by rw [htt]; unfold fldT; rw [e4]; rfl
          subst ht0
          obtain ⟨x0, rfl, ex0⟩ := hw0
          have hv01 := hbo.1 e4
          rw [e4, hT]
          have hx : x0 = 0 ∨ x0 = 1 := hv01.imp (fun q => Int32.toInt_inj.mp (by rw [ex0, q]; rfl)) (fun q => Int32.toInt_inj.mp (by rw [ex0, q]; rfl))
          refine ⟨hv01, ?_, ?_, ?_⟩
          · show Value.int x0 = .int (Int32.ofInt v)
            rw [← ex0, i32_of]
          · rcases hx with rfl | rfl <;> rfl
          · rcases hx with rfl | rfl <;> rfl
        · have e4 : q % 4 = 2 := by rw [← hkd, hT]
          have ht0 : t = 2 := by rw [htt]; unfold fldT; rw [e4]; rfl
          subst ht0
          rw [e4]
          have href : ∀ u : Value, (u = .null ∨ ∃ b, u = .ref b) → narrow (zTy (q / 1024) (q / 4 % 256)) u = u ∧ fits (zTy (q / 1024) (q / 4 % 256)) u = true := by
            intro u hu
            generalize zTy (q / 1024) (q / 4 % 256) = ty at hT
            rcases hu with rfl | ⟨b, rfl⟩ <;> cases ty <;> first | exact ⟨rfl, rfl⟩ | (exact absurd hT (by decide))
          refine ⟨?_, ?_, (href _ (zref_of hw0)).1, (href _ (zref_of hw0)).2⟩
          · rcases hw0 with ⟨rfl, -⟩ | ⟨h1, -⟩
            · exact Or.inl rfl
            · exact Or.inr h1
          · show w0 = if v = 0 then Value.null else .ref (ad v.toNat)
            rcases hw0 with ⟨rfl, rfl⟩ | ⟨h1, rfl⟩
            · rfl
            · rw [if_neg (fun q => by have := h1.1; omega)]
      obtain ⟨⟨hov, hwv, hnar, hfit⟩, h⟩ := hmain
      obtain ⟨h, hkv⟩ := wrf_F hkn h
      have hg := zW_get (tc := tc) (ad := ad) (σ := σ) qa1 (by omega)
      have hEq : ∀ σ' : mM, zE tc ad σ' a.toNat = .inr (q / 1024, zfs ad σ' a.toNat (q / 1024) ((shp a.toNat).2 - 1)) := by
        intro σ'
        unfold zE
        rw [hk]
        split <;> first | omega | skip
        have : 100 + q / 1024 - 100 = q / 1024 := by omega
        simp only [this]
      rw [hEq] at hg
      have hone : 1 ≤ q / 1024 := by
        rcases Nat.lt_or_ge (q / 1024) 1 with z | z
        · have : ∀ a, a < 372 → 156 ≤ a → ¬ (shp a).1 = 100 := by decide +kernel
          exact absurd (by omega) (this _ hlt qa1)
        · exact z
      have hdecl : (rc.2.1 (q / 4 % 256)).1 = zR (q / 1024) := by rw [zR_cls _ _ hone hr1, zown _ _ hr1 _ hpos]
      have hsame : ∀ x, s.fieldFound? (rc.2.1 (q / 4 % 256)).1 (rc.2.1 (q / 4 % 256)).2.1 (rc.2.1 (q / 4 % 256)).2.2.1 = some x → s.fieldFound? (zR (q / 1024)) (rc.2.1 (q / 4 % 256)).2.1 (rc.2.1 (q / 4 % 256)).2.2.1 = some x := by
        intro x hx9
        rw [← hdecl]
        exact hx9
      have hpd := ztyok _ _ hr1 _ hpos
      have hfl2 : q / 4 % 256 < (zfs ad σ a.toNat (q / 1024) ((shp a.toNat).2 - 1)).length := by unfold zfs; rw [List.length_map, List.length_range]; omega
      have hkk : ∀ (H1 : Heap) (locs1 : List Loc), va_P D zcls ((zW tc ad σ ((σ 0 0).toNat - 156)).set (a.toNat - 156) (ad a.toNat, .inr (q / 1024, (zfs ad σ a.toNat (q / 1024) ((shp a.toNat).2 - 1)).set (q / 4 % 256) w0))) H1 →
          va_D A ((zW tc ad σ ((σ 0 0).toNat - 156)).set (a.toNat - 156) (ad a.toNat, .inr (q / 1024, (zfs ad σ a.toNat (q / 1024) ((shp a.toNat).2 - 1)).set (q / 4 % 256) w0))) → va_S A s.heap H1 locs1 → W p l e R s m args below meth c H1 locs1 cells slots Qw (F0 m (pc + 3) lsR q2) := by
        intro H1 locs1 hP1 hD1 hS1
        rw [hwv, ← hkd, zfs_set (by omega), ← hEq] at hP1 hD1
        have hz1 := zHp_set hz.1 qa1 (by omega) (fun b hb => ms_same hb) (zokc_obj (j := q / 4 % 256) (v := v) (by omega) (by omega) (hok _ qa1 (by omega)) (by rw [hci, hkd]; exact hov)) (fun pp vv hh => by
          by_cases e9 : pp = q / 4 % 256
          · subst e9; rw [ms_at]; exact hkv _ hh
          · rw [ms_ne (fun qq => e9 (Int.ofNat.inj qq))]; exact hkn _ _ _ hh) hP1 hD1
        have hL := zLat_ms (ad := ad) (σ := σ) (a := a.toNat) (i := Int.ofNat (q / 4 % 256)) (v := v) (by omega)
        exact go _ _ _ _ _ _ _ _ _ _ h hL (zRl_ms (by omega) hz hz1 hS1) (zloc_up hL.1 hL.2 hlo) hle (zst_up hL.1 hL.2 hst2) _ _ _ e2
      have hpu2 : zput y q = true := hpu
      unfold zput at hpu2
      rw [hr1] at hpu2
      dsimp only at hpu2
      rw [Bool.or_eq_true] at hlinks
      rcases hlinks with hl | hl
      · have hlw := hts _ (zFL_ok _ (mem4_ok _ hl))
        dsimp only at hlw
        rw [hgd] at hlw
        cases hfin : (rc.2.1 (q / 4 % 256)).2.2.2 with
        | false => exact va_put (C := rc.1) (T := rc.2.1) (N := rc.2.2) hx hb hts (zin _ _ hr1) (zTy (q / 1024)) (ztyok _ _ hr1) (znm _ _ hr1) hown hK hP hD hSS (a.toNat - 156) hg hr1 (q / 4 % 256) hpos hlw hsame hfin hpd hnar hfit hfl2 hd hkk
        | true =>
          rw [hfin] at hpu2
          simp only [Bool.not_true, Bool.false_or, Bool.and_eq_true, decide_eq_true_eq] at hpu2
          have hmy : mcl y = q / 1024 := beqN hpu2.1
          exact va_putF (C := rc.1) (T := rc.2.1) (N := rc.2.2) hx hb hts (zin _ _ hr1) (zTy (q / 1024)) (ztyok _ _ hr1) (znm _ _ hr1) hown hK hP hD hSS (a.toNat - 156) hg hr1 (q / 4 % 256) hpos hlw hsame hfin (by rw [hnm]; exact hpu2.2) (by rw [hdecl, hmy]) hpd hnar hfit hfl2 hd hkk
      · have hmem : Cond.fieldLinkNest (zR (mcl y)) j (zR (q / 1024)) ((zcls.getD (q / 1024) (RX1, TX1, 17)).2.1 (q / 4 % 256)).2.1 ((zcls.getD (q / 1024) (RX1, TX1, 17)).2.1 (q / 4 % 256)).2.2.1 RX1 ∈ znest := List.mem_map.mpr ⟨_, mem4_ok _ hl, rfl⟩
        have hlw := va_Nw.use (A := args) rfl (hn1 _ hmem)
        rw [hgd] at hlw
        have hfin : (rc.2.1 (q / 4 % 256)).2.2.2 = false := by
          cases hf : (rc.2.1 (q / 4 % 256)).2.2.2 with
          | false => rfl
          | true =>
            rw [hf] at hpu2
            simp only [Bool.not_true, Bool.false_or, Bool.and_eq_true, decide_eq_true_eq] at hpu2
            exact absurd (beqN hpu2.1) (zFN_ne _ (mem4_ok _ hl))
        exact va_putN (C := rc.1) (T := rc.2.1) (N := rc.2.2) hx hb hts (zin _ _ hr1) (zTy (q / 1024)) (ztyok _ _ hr1) (znm _ _ hr1) hown hK hP hD hSS (a.toNat - 156) hg hr1 (q / 4 % 256) hpos hlw hsame hfin hpd hnar hfit hfl2 hd hkk
    · exact h.elim
  · cases ho
end ZK
