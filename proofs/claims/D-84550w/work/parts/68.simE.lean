/-! THE SIMULATION: iinc, lcmp, tableswitch, returns -/
set_option maxRecDepth 100000
set_option maxHeartbeats 4000000
section ZEE
variable {l : Launch} {D : va_G} {tc : Nat → ClassId} {A : Nat → Prop} {ex : Nat → Nat} {σ0 : mM} {kn : Nat → Nat → Option Int}
variable {d y : Nat} {k : mC} {ls st : List mV} {σ : mM} {Aq : mA} {Bq : mB} {pc : Nat} {C : zC}
theorem zc_iinc {n : Nat} {cv : Int} (hs : (pc, .iinc n cv) :: k <:+ cd y) (ho : zokI y pc (.iinc n cv) k = true) (h : sem kn C d y pc (.iinc n cv) k ls st σ Aq Bq (fun k ls st σ => zReal l D tc A ex σ0 kn d y k ls st σ Aq Bq)) : zReal l D tc A ex σ0 kn d y ((pc, .iinc n cv) :: k) ls st σ Aq Bq := by
  intro p e R s m args below meth c hc hr ad H locs cells slots lsR stR C0 S0 hC hS hz hlo hle hst Qw qa qb pc' i' k'' he _
  cases he
  have go := zgo_of (k := k) ((List.suffix_cons _ _).trans hs) hc hr hC hS qa qb
  obtain ⟨hx, hb, hml, hrt, hlk, hown, hts, hK, hE, hnm, hn1, hn2⟩ := hc
  obtain ⟨hd, i2, k2, e2⟩ := zdn_ok (show zdn y pc k (.iinc n cv) 3 = true from ho)
  unfold sem at h
  dsimp only at h
  split at h
  · rename_i z hz1
    have hgl := zget_len hz1 (by simp)
    obtain ⟨w, hw, hr1⟩ := hlo.2.2 n _ hgl (by simp)
    obtain ⟨x1, rfl, ex1⟩ := hw
    obtain ⟨kk, hkk⟩ := List.mem_iff_getElem?.mp (zlv_mem.mpr hr1)
    have hnl : n < lsR.size := (Array.getElem?_eq_some_iff.mp hr1).1
    have hval : (x1 + Int32.ofInt cv).toInt = z + cv := by
      rw [Int32.toInt_add, ex1, Int32.toInt_ofInt]
      have := bm32 h.1
      simp only [Int.add_bmod_bmod]
      exact this
    refine lv_iinc hx hb hd (zlv_has hlo.2.1) hkk rfl hnl rfl (fun ls' h' => go _ _ _ _ _ _ _ _ _ _ h.2 zLat.rf hz ?_ (by rw [List.length_set]; exact hle) hst _ _ _ e2)
    refine ⟨by rw [h'.1, List.length_set]; exact hlo.1, h'.2.1, fun j u hj hu => ?_⟩
    rw [List.getElem?_set] at hj
    split at hj
    · rename_i hjn
      subst hjn
      split at hj
      · obtain rfl := Option.some.inj hj
        exact ⟨_, ⟨_, rfl, hval⟩, h'.2.2 (n, .int (x1 + Int32.ofInt cv)) List.mem_cons_self⟩
      · cases hj
    · rename_i hjn
      obtain ⟨w2, hw2, hr2⟩ := hlo.2.2 j u hj hu
      refine ⟨w2, hw2, h'.2.2 (j, w2) (List.mem_cons_of_mem _ (List.mem_filter.mpr ⟨zlv_mem.mpr hr2, ?_⟩))⟩
      simp only [Bool.and_eq_true, Bool.not_eq_true', beq_eq_false_iff_ne, ne_eq, Bool.and_eq_false_imp, beq_iff_eq]
      refine ⟨fun q => hjn q.symm, fun q => ?_⟩
      intro hcat
      have := hlo.2.1.1 j w2 hr2 hcat
      rw [q, hr1] at this
      cases this
  · exact h.elim
theorem zcmp_eq {x y : Int64} : lg_cmp x y = 0 ↔ x.toInt = y.toInt := by
  unfold lg_cmp
  split
  · rename_i q
    have := Int64.lt_iff_toInt_lt.mp q
    constructor
    · intro h; exact absurd h (by decide)
    · intro h; omega
  · split
    · rename_i q; exact ⟨fun _ => congrArg Int64.toInt q, fun _ => rfl⟩
    · rename_i q; exact ⟨fun h => absurd h (by decide), fun h => absurd (Int64.toInt_inj.mp h) q⟩
theorem zcmp_lt {x y : Int64} : lg_cmp x y < 0 ↔ x.toInt < y.toInt := by
  unfold lg_cmp
  split
  · rename_i q
    have := Int64.lt_iff_toInt_lt.mp q
    exact ⟨fun h => absurd h (by decide), fun h => by omega⟩
  · rename_i q
    have q' : ¬ y.toInt < x.toInt := fun r => q (Int64.lt_iff_toInt_lt.mpr r)
    split
    · rename_i r; have r' := congrArg Int64.toInt r; exact ⟨fun h => absurd h (by decide), fun h => by omega⟩
    · rename_i r; have r' : ¬ x.toInt = y.toInt := fun h => r (Int64.toInt_inj.mp h); exact ⟨fun _ => by omega, fun _ => by decide⟩
theorem zcmp_gt {x y : Int64} : 0 < lg_cmp x y ↔ y.toInt < x.toInt := by
  unfold lg_cmp
  split
  · rename_i q
    have := Int64.lt_iff_toInt_lt.mp q
    exact ⟨fun _ => this, fun _ => by decide⟩
  · rename_i q
    have q' : ¬ y.toInt < x.toInt := fun r => q (Int64.lt_iff_toInt_lt.mpr r)
    split
    · rename_i r; exact ⟨fun h => absurd h (by decide), fun h => by omega⟩
    · rename_i r; exact ⟨fun h => absurd h (by decide), fun h => by omega⟩
theorem zc_lcmp (hall : ∀ pc i k, (pc, i) :: k <:+ cd y → zokI y pc i k = true) (hs : (pc, .lcmp) :: k <:+ cd y) (h : sem kn C d y pc .lcmp k ls st σ Aq Bq (fun k ls st σ => zReal l D tc A ex σ0 kn d y k ls st σ Aq Bq)) : zReal l D tc A ex σ0 kn d y ((pc, .lcmp) :: k) ls st σ Aq Bq := by
  have ho := hall _ _ _ hs
  intro p e R s m args below meth c hc hr ad H locs cells slots lsR stR C0 S0 hC hS hz hlo hle hst Qw qa qb pc' i' k'' he _
  cases he
  have hc0 := hc
  obtain ⟨hx, hb, hml, hrt, hlk, hown, hts, hK, hE, hnm, hn1, hn2⟩ := hc
  obtain ⟨hd, i2, k2, e2⟩ := zdn_ok (show zdn y pc k .lcmp 1 = true from ho)
  unfold sem at h
  dsimp only at h
  split at h
  · rename_i b a r
    obtain ⟨y1, q1, rfl, ey, hst⟩ := zst_l hst
    obtain ⟨x1, q2, rfl, ex1, hst⟩ := zst_l hst
    refine W.lcmp hx hb hd ?_
    subst e2
    split at h
    · rename_i pc2 cn t k' hkk
      simp only [List.cons.injEq, Prod.mk.injEq] at hkk
      obtain ⟨⟨rfl, rfl⟩, rfl⟩ := hkk
      have hs2 : (pc + 1, .ifCond cn t) :: k2 <:+ cd y := (List.suffix_cons _ _).trans hs
      have ho := hall _ _ _ hs2
      have go := zgo_of (k := k2) ((List.suffix_cons _ _).trans hs2) hc0 hr hC hS qa qb
      have goj := zgo_of (k := jmp y t) (jmp_suf y t) hc0 hr hC hS qa qb
      unfold zokI at ho
      dsimp only at ho
      split at ho
      · rename_i c2 off n hd2
        simp only [Bool.and_eq_true, decide_eq_true_eq] at ho
        obtain ⟨⟨⟨rfl, hn⟩, hq⟩, hbr⟩ := ho
        obtain rfl := Nat.eq_of_beq_eq_true hn
        obtain ⟨i3, k3, e3⟩ := nxb_ok hq
        obtain ⟨n4, i4, k4, e4, j4⟩ := zbr_ok hbr
        have g1 : zReal l D tc A ex σ0 kn d y k2 ls r σ Aq Bq → W p l e R s m args below meth c H locs cells slots Qw (F0 m (pc + 1 + 3) lsR q2) := fun h => go _ _ _ _ _ _ _ _ _ _ h zLat.rf hz hlo hle hst _ _ _ e3
        have g2 : zReal l D tc A ex σ0 kn d y (jmp y t) ls r σ Aq Bq → W p l e R s m args below meth c H locs cells slots Qw (F0 m n4 lsR q2) := fun h => goj _ _ _ _ _ _ _ _ _ _ h zLat.rf hz hlo hle hst _ _ _ j4
        have c0 : lg_cmp x1 y1 = 0 ↔ a = b := by rw [zcmp_eq, ex1, ey]
        have c1 : lg_cmp x1 y1 < 0 ↔ a < b := by rw [zcmp_lt, ex1, ey]
        have c2 : 0 < lg_cmp x1 y1 ↔ b < a := by rw [zcmp_gt, ex1, ey]
        have c3 : ∀ z : Int32, 0 ≤ z ↔ ¬ z < 0 := fun z => Int32.not_lt.symm
        have c4 : ∀ z : Int32, z ≤ 0 ↔ ¬ 0 < z := fun z => Int32.not_lt.symm
        cases cn <;> dsimp only [br6] at h
        · exact lv_if_eq hx hb hd2 e4 (fun q => g2 (h.1 (c0.mp q))) (fun q => g1 (h.2 (fun qq => q (c0.mpr qq))))
        · exact lv_if_ne hx hb hd2 e4 (fun q => g2 (h.2 (fun qq => q (c0.mpr qq)))) (fun q => g1 (h.1 (c0.mp q)))
        · exact lv_if_lt hx hb hd2 e4 (fun q => g2 (h.1 (c1.mp q))) (fun q => g1 (h.2 (by have : ¬ a < b := fun qq => q (c1.mpr qq); omega)))
        · exact lv_if_ge hx hb hd2 e4 (fun q => g2 (h.1 (by have : ¬ a < b := fun qq => (c3 _).mp q (c1.mpr qq); omega))) (fun q => g1 (h.2 (by have : ¬ ¬ a < b := fun qq => q ((c3 _).mpr (fun w => qq (c1.mp w))); omega)))
        · exact lv_if_gt hx hb hd2 e4 (fun q => g2 (h.1 (c2.mp q))) (fun q => g1 (h.2 (by have : ¬ b < a := fun qq => q (c2.mpr qq); omega)))
        · exact lv_if_le hx hb hd2 e4 (fun q => g2 (h.1 (by have : ¬ b < a := fun qq => (c4 _).mp q (c2.mpr qq); omega))) (fun q => g1 (h.2 (by have : ¬ ¬ b < a := fun qq => q ((c4 _).mpr (fun w => qq (c2.mp w))); omega)))
      · cases ho
    · have go := zgo_of (k := (pc + 1, i2) :: k2) ((List.suffix_cons _ _).trans hs) hc0 hr hC hS qa qb
      refine go _ _ _ _ _ _ _ _ _ _ h zLat.rf hz hlo hle (zpi ?_ hst) _ _ _ rfl
      unfold cmpI
      rw [← ex1, ← ey]
      by_cases q1 : x1.toInt < y1.toInt
      · rw [if_pos q1]
        unfold lg_cmp
        rw [if_neg (fun q => by have := Int64.lt_iff_toInt_lt.mp q; omega), if_neg (fun q => by rw [q] at q1; omega)]
        rfl
      · rw [if_neg q1]
        by_cases q2 : x1.toInt = y1.toInt
        · rw [if_pos q2, zcmp_eq.mpr q2]; rfl
        · rw [if_neg q2]
          unfold lg_cmp
          rw [if_pos (Int64.lt_iff_toInt_lt.mpr (by omega))]
          rfl
  · exact h.elim
theorem sw6_get {z : Int} {J : Int → Prop} : ∀ (ts : List Int) (lo : Int) (j : Nat) (t : Int), sw6 z J lo ts → ts[j]? = some t → z = lo + j → J t
  | [], _, _, _, _, h, _ => by simp at h
  | u :: ts, lo, 0, t, h, ht, e => by
    simp only [List.getElem?_cons_zero, Option.some.injEq] at ht
    subst ht
    exact h.1 (by simpa using e)
  | u :: ts, lo, j + 1, t, h, ht, e => by
    simp only [List.getElem?_cons_succ] at ht
    exact sw6_get ts (lo + 1) j t h.2 ht (by rw [e]; omega)
theorem zc_tableswitch {df lo hi : Int} {offs : Array Int} (hs : (pc, .tableswitch df lo hi offs) :: k <:+ cd y) (ho : zokI y pc (.tableswitch df lo hi offs) k = true) (h : sem kn C d y pc (.tableswitch df lo hi offs) k ls st σ Aq Bq (fun k ls st σ => zReal l D tc A ex σ0 kn d y k ls st σ Aq Bq)) : zReal l D tc A ex σ0 kn d y ((pc, .tableswitch df lo hi offs) :: k) ls st σ Aq Bq := by
  intro p e R s m args below meth c hc hr ad H locs cells slots lsR stR C0 S0 hC hS hz hlo hle hst Qw qa qb pc' i' k'' he _
  cases he
  have hc0 := hc
  obtain ⟨hx, hb, hml, hrt, hlk, hown, hts, hK, hE, hnm, hn1, hn2⟩ := hc
  unfold zokI at ho
  dsimp only at ho
  split at ho
  · rename_i d2 l2 h2 o2 n hd
    simp only [Bool.and_eq_true, decide_eq_true_eq] at ho
    obtain ⟨⟨⟨⟨⟨hbr, rfl⟩, rfl⟩, hsz⟩, hmap⟩, hall⟩ := ho
    have goj := fun t => zgo_of (k := jmp y t) (jmp_suf y t) hc0 hr hC hS qa qb
    unfold sem at h
    dsimp only at h
    split at h
    · rename_i z r
      obtain ⟨x1, q2, rfl, ex1, hst⟩ := zst_i hst
      by_cases hin : z < lo ∨ hi < z
      · obtain ⟨n4, i4, k4, e4, j4⟩ := zbr_ok hbr
        exact lv_tableOut hx hb hd (by rw [ex1]; exact hin) e4 (goj _ _ _ _ _ _ _ _ _ _ _ (h.1 hin) zLat.rf hz hlo hle hst _ _ _ j4)
      · have hj : (z - lo).toNat < offs.toList.length := by
          rw [Array.length_toList]
          have : (offs.size : Int) = hi - lo + 1 := by rw [hsz]; rfl
          omega
        have hg : offs.toList[(z - lo).toNat]? = some (offs.toList[(z - lo).toNat]'hj) := List.getElem?_eq_getElem hj
        generalize offs.toList[(z - lo).toNat]'hj = t at hg
        have hmem := List.mem_of_getElem? hg
        have ht := List.all_eq_true.mp hall t hmem
        obtain ⟨n4, i4, k4, e4, j4⟩ := ztg_ok ht
        have hg2 := hg
        rw [hmap, List.getElem?_map] at hg2
        cases ho2 : o2.toList[(z - lo).toNat]? with
        | none => rw [ho2] at hg2; cases hg2
        | some off =>
          rw [ho2] at hg2
          simp only [Option.map_some, Option.some.injEq] at hg2
          refine lv_tableIn hx hb hd (by rw [ex1]; omega) (by rw [ex1]; omega) (off := off) (by rw [ex1]; simpa using ho2) (by rw [hg2, e4]) (goj t _ _ _ _ _ _ _ _ _ _ (sw6_get _ _ _ t h.2 hg (by omega)) zLat.rf hz hlo hle hst _ _ _ j4)
    · exact h.elim
  · cases ho
end ZEE
