/-! THE SIMULATION: cells are born -/
set_option maxRecDepth 100000
set_option maxHeartbeats 4000000
theorem arrV_congr {cI : ClassId} {N : Nat} {f g : Nat → Value} (h : ∀ j, j < N → f j = g j) : arrV cI N f = arrV cI N g := by
  unfold arrV
  congr 2
  funext j
  exact h j.val j.isLt
theorem shp_lt (a : Nat) (h : ¬ (shp a).1 = 0) : a < 372 := by
  rcases Nat.lt_or_ge a 384 with h1 | h1
  · have : ∀ a, a < 384 → 372 ≤ a → (shp a).1 = 0 := by decide +kernel
    rcases Nat.lt_or_ge a 372 with h2 | h2
    · exact h2
    · exact absurd (this a h1 h2) h
  · exfalso
    apply h
    unfold shp
    have : shpT.length = 12 := by decide +kernel
    rw [List.getD_eq_getElem?_getD (l := shpT), List.getElem?_eq_none (by omega)]
    rfl
/-- the memory behind a birth -/
def bornM (σ : mM) (ln : Int) : mM := ms (zro (ms (ms σ 0 2 (σ 0 2 - 1)) 0 3 (σ 0 3 - ln)) (σ 0 0).toNat) 0 0 (σ 0 0 + 1)
theorem nokn_ok {kn : Nat → Nat → Option Int} {P : Prop} (h : nokn kn P) : kn 156 0 = none ∧ P := by
  unfold nokn at h
  split at h
  · rename_i q; exact ⟨q, h⟩
  · exact h.elim
theorem born_ok {σ : mM} {kd : Nat} {ln : Int} {K : Int → mM → Prop} (h : born σ kd ln K) : shK (σ 0 0) = kd ∧ ln = shL σ (σ 0 0) ∧ 1 ≤ σ 0 2 ∧ ln ≤ σ 0 3 ∧ K (σ 0 0) (bornM σ ln) := by
  obtain ⟨h1, h2, ⟨h3, h4⟩, h5⟩ := chk_ok h
  exact ⟨beqN h1, h2, h3, h4, h5⟩
theorem bornM_0 {σ : mM} {ln : Int} : bornM σ ln 0 0 = σ 0 0 + 1 := by unfold bornM ms; simp
theorem bornM_2 {σ : mM} {ln : Int} (h : 0 < σ 0 0) : bornM σ ln 0 2 = σ 0 2 - 1 := by
  unfold bornM ms zro
  have h1 : ¬ (0 : Nat) = (σ 0 0).toNat := by omega
  simp [h1]
theorem bornM_3 {σ : mM} {ln : Int} (h : 0 < σ 0 0) : bornM σ ln 0 3 = σ 0 3 - ln := by
  unfold bornM ms zro
  have h1 : ¬ (0 : Nat) = (σ 0 0).toNat := by omega
  simp [h1]
theorem bornM_a {σ : mM} {ln j : Int} (h : 0 < σ 0 0) : bornM σ ln (σ 0 0).toNat j = 0 := by
  unfold bornM
  rw [ms_same (by omega)]
  unfold zro
  rw [if_pos rfl]
theorem bornM_b {σ : mM} {ln : Int} {b : Nat} (h : b ≠ 0) (hb : b ≠ (σ 0 0).toNat) : bornM σ ln b = σ b := by
  unfold bornM
  rw [ms_same h]
  funext j
  unfold zro
  rw [if_neg hb, ms_same h, ms_same h]
def zad (ad : Nat → Nat) (σ : mM) (q : Nat) : Nat → Nat := fun b => if b = (σ 0 0).toNat then q else ad b
section ZT
variable {l : Launch} {D : va_G} {tc : Nat → ClassId} {A : Nat → Prop} {ex : Nat → Nat} {σ0 : mM} {kn : Nat → Nat → Option Int}
variable {d y : Nat} {k : mC} {ls st : List mV} {σ : mM} {Aq : mA} {Bq : mB} {pc : Nat} {C : zC}
theorem zrf_to {ad ad1 : Nat → Nat} {b j : Nat} (ha : ∀ z : Nat, (z : Int) < σ 0 0 → ad1 z = ad z) (h : zok1 σ 2 (σ b (Int.ofNat j))) : zrf ad1 σ b j = zrf ad σ b j := by
  unfold zrf
  split
  · rfl
  · rename_i hz
    rcases h with h | ⟨h1, h2⟩
    · exact absurd h hz
    · rw [ha _ (by omega)]
theorem zfv_to {ad ad1 : Nat → Nat} {t : Nat} {z : Int} (ha : ∀ z : Nat, (z : Int) < σ 0 0 → ad1 z = ad z) (h : zok1 σ t z) : zfv ad1 t z = zfv ad t z := by
  unfold zfv
  split
  · rfl
  · split
    · rfl
    · rename_i hz
      rcases h with h | ⟨h1, h2⟩
      · exact absurd h hz
      · rw [ha _ (by omega)]
  · rfl
theorem zE_obj {ad : Nat → Nat} {b ci : Nat} (hk : (shp b).1 = 100 + ci) : zE tc ad σ b = .inr (ci, zfs ad σ b ci ((shp b).2 - 1)) := by
  unfold zE
  rw [hk]
  split <;> first | omega | skip
  have : 100 + ci - 100 = ci := by omega
  simp only [this]
theorem zfs_to {ad ad1 : Nat → Nat} {b ci n : Nat} (ha : ∀ z : Nat, (z : Int) < σ 0 0 → ad1 z = ad z) (h : ∀ j, j < n → zok1 σ (zfk (zTy ci j)) (σ b (Int.ofNat j))) : zfs ad1 σ b ci n = zfs ad σ b ci n := by
  unfold zfs
  refine List.map_congr_left (fun j hj => ?_)
  exact zfv_to ha (h j (List.mem_range.mp hj))
theorem zkinds : ∀ b, b < 372 → (shp b).1 ≤ 6 ∨ 100 ≤ (shp b).1 := by decide +kernel
theorem zE_at {ad ad1 : Nat → Nat} {σ1 : mM} {b : Nat} {H : Heap} (hb372 : b < 372) (hσ : σ1 b = σ b) (hok : zokc σ b) (ha : ∀ z : Nat, (z : Int) < σ 0 0 → ad1 z = ad z) (hb : ad1 b = ad b) (h : va_at D zcls (ad b, zE tc ad σ b) H) : va_at D zcls (ad1 b, zE tc ad1 σ1 b) H := by
  rw [zE_congr hσ, hb]
  rcases zkinds b hb372 with hk | hk
  · have hrf : ∀ kd : Nat, (shp b).1 = kd → kd < 100 → zak kd = 2 → ∀ cA, vp_cell cA ((shp b).2 - 1, .inr (.inr (.inr (.inr (zrf ad1 σ b))))) = vp_cell cA ((shp b).2 - 1, .inr (.inr (.inr (.inr (zrf ad σ b))))) := by
      intro kd h1 h2 h3 cA
      rw [vp_cell_q, vp_cell_q]
      refine arrV_congr (fun j hj => ?_)
      have := zok_arr (by omega) hok hj
      rw [h1, h3] at this
      rw [zrf_to ha this]
    have hc : (shp b).1 = 0 ∨ (shp b).1 = 1 ∨ (shp b).1 = 2 ∨ (shp b).1 = 3 ∨ (shp b).1 = 4 ∨ (shp b).1 = 5 ∨ (shp b).1 = 6 := by omega
    unfold zE at h ⊢
    rcases hc with e0 | e0 | e0 | e0 | e0 | e0 | e0 <;> rw [e0] at h ⊢
    · exact h
    · exact h
    · exact h
    · exact h
    · exact h
    · have h2 : H[ad b]? = some (vp_cell (tc 5) ((shp b).2 - 1, .inr (.inr (.inr (.inr (zrf ad σ b)))))) := h
      rw [← hrf 5 e0 (by decide) rfl] at h2
      exact h2
    · have h2 : H[ad b]? = some (vp_cell (tc 6) ((shp b).2 - 1, .inr (.inr (.inr (.inr (zrf ad σ b)))))) := h
      rw [← hrf 6 e0 (by decide) rfl] at h2
      exact h2
  · have hk2 : (shp b).1 = 100 + ((shp b).1 - 100) := by omega
    rw [zE_obj hk2] at h ⊢
    rw [zfs_to ha (fun j hj => zok_obj hk hok hj)]
    exact h
theorem zW_len {ad : Nat → Nat} {n : Nat} : (zW tc ad σ n).length = n := by unfold zW; simp
theorem zW_at {ad : Nat → Nat} {n j : Nat} (h : j < n) : (zW tc ad σ n)[j]? = some (ad (156 + j), zE tc ad σ (156 + j)) := by
  unfold zW
  rw [List.getElem?_map, List.getElem?_range h]
  rfl
theorem zokc_zero {σ : mM} {b : Nat} (h : ∀ j, σ b j = 0) : zokc σ b := by
  have h0 : ∀ t, zok1 σ t 0 := by
    intro t
    unfold zok1
    split
    · unfold ok32; omega
    · unfold ok64; omega
    · exact Or.inl rfl
    · exact Or.inl rfl
    · unfold ok8; omega
  unfold zokc
  split
  · intro j _; rw [h]; exact h0 _
  · intro j _; rw [h]; exact h0 _
/-- a cell is born -/
theorem zborn {ad : Nat → Nat} {H H1 : Heap} {ln : Int} {q : Nat} {E0 : va_E} (hs2 : 1 ≤ σ 0 2) (hs3 : ln ≤ σ 0 3) (hk : ¬ shK (σ 0 0) = 0) (hkn : ∀ a p, kn a p = none) (hz : zHp D tc A ex σ0 kn ad σ H)
    (hP : va_P D zcls (zW tc ad σ ((σ 0 0).toNat - 156) ++ [(q, E0)]) H1) (hD : va_D A (zW tc ad σ ((σ 0 0).toNat - 156) ++ [(q, E0)])) (hE : zE tc (zad ad σ q) (bornM σ ln) (σ 0 0).toNat = E0) : zHp D tc A ex σ0 kn (zad ad σ q) (bornM σ ln) H1 ∧ zLat ad σ (zad ad σ q) (bornM σ ln) := by
  obtain ⟨⟨h1, h1'⟩, h2, h3, h4, h5, h6, h7⟩ := hz
  have hlt : (σ 0 0).toNat < 372 := shp_lt _ hk
  have hpos : 0 < σ 0 0 := by omega
  have had : ∀ z : Nat, (z : Int) < σ 0 0 → zad ad σ q z = ad z := fun z hz => by unfold zad; rw [if_neg (by omega)]
  have hadq : zad ad σ q (σ 0 0).toNat = q := by unfold zad; rw [if_pos rfl]
  have hnn : (bornM σ ln 0 0).toNat - 156 = (σ 0 0).toNat - 156 + 1 := by rw [bornM_0]; omega
  have hget : ∀ j, j < (σ 0 0).toNat - 156 → (zW tc ad σ ((σ 0 0).toNat - 156) ++ [(q, E0)])[j]? = some (ad (156 + j), zE tc ad σ (156 + j)) := fun j hj => by
    rw [List.getElem?_append_left (by rw [zW_len]; exact hj)]
    exact zW_at hj
  have hlast : (zW tc ad σ ((σ 0 0).toNat - 156) ++ [(q, E0)])[(σ 0 0).toNat - 156]? = some (q, E0) := by
    rw [List.getElem?_append_right (by rw [zW_len]; exact Nat.le_refl _), zW_len, Nat.sub_self]
    rfl
  refine ⟨⟨⟨by rw [bornM_0]; omega, by rw [bornM_0]; omega, by rw [bornM_2 hpos]; omega, by rw [bornM_3 hpos]; omega, fun q => absurd (hkn _ _) q⟩, fun b hb => ?_, ?_, ?_, fun b q1 q2 => ?_, fun b j q1 q2 => ?_, fun b p v q => ?_⟩, ⟨by rw [bornM_0]; omega, had⟩⟩
  · rw [had b (by omega)]; exact h2 b hb
  · rw [hnn]
    intro j x hx
    have hjl : j < (σ 0 0).toNat - 156 + 1 := by
      have := (List.getElem?_eq_some_iff.mp hx).1
      rw [zW_len] at this
      exact this
    rw [zW_at hjl] at hx
    obtain rfl := Option.some.inj hx
    by_cases hj : j < (σ 0 0).toNat - 156
    · exact zE_at (by omega) (bornM_b (by omega) (by omega)) (h5 _ (by omega) (by omega)) had (had _ (by omega)) (hP j _ (hget j hj))
    · have hj2 : 156 + j = (σ 0 0).toNat := by omega
      have hj3 : j = (σ 0 0).toNat - 156 := by omega
      rw [hj2, hadq, hE]
      exact hP _ _ hlast
  · rw [hnn]
    have hfst : ∀ (j : Nat) (x : Nat × va_E), (zW tc (zad ad σ q) (bornM σ ln) ((σ 0 0).toNat - 156 + 1))[j]? = some x → ∃ x' : Nat × va_E, (zW tc ad σ ((σ 0 0).toNat - 156) ++ [(q, E0)])[j]? = some x' ∧ x'.1 = x.1 := by
      intro j x hx
      have hjl : j < (σ 0 0).toNat - 156 + 1 := by
        have := (List.getElem?_eq_some_iff.mp hx).1
        rw [zW_len] at this
        exact this
      rw [zW_at hjl] at hx
      obtain rfl := Option.some.inj hx
      by_cases hj : j < (σ 0 0).toNat - 156
      · exact ⟨_, hget j hj, (had _ (by omega)).symm⟩
      · have hj2 : 156 + j = (σ 0 0).toNat := by omega
        have hj3 : j = (σ 0 0).toNat - 156 := by omega
        rw [hj3]
        exact ⟨_, hlast, by rw [← hj3, hj2, hadq]⟩
    refine ⟨fun i j x y hx hy hxy => ?_, fun j x hx => ?_⟩
    · obtain ⟨x', hx1, hx2⟩ := hfst i x hx
      obtain ⟨y', hy1, hy2⟩ := hfst j y hy
      exact hD.1 i j x' y' hx1 hy1 (by rw [hx2, hy2]; exact hxy)
    · obtain ⟨x', hx1, hx2⟩ := hfst j x hx
      rw [← hx2]
      exact hD.2 j x' hx1
  · rw [bornM_0] at q2
    by_cases hb : b = (σ 0 0).toNat
    · subst hb
      exact zokc_zero (fun j => bornM_a hpos)
    · exact zokc_congr (by rw [bornM_0]; omega) (bornM_b (by omega) hb) (h5 b q1 (by omega))
  · rw [bornM_b (by omega) (by omega)]
    exact h6 b j q1 q2
  · rw [hkn] at q; cases q
theorem zRl_born {s : State} {ad ad1 : Nat → Nat} {H H1 : Heap} {locs : List Loc} {cells slots N : Nat} {C0 S0 ln : Int} (hpos : 0 < σ 0 0) (hN : ln = N) (hz : zRl D tc A ex σ0 kn s ad σ H locs cells slots C0 S0) (hp : zHp D tc A ex σ0 kn ad1 (bornM σ ln) H1) (hS : va_S A s.heap H1 locs) : zRl D tc A ex σ0 kn s ad1 (bornM σ ln) H1 locs (cells + 1) (slots + N) C0 S0 := by
  refine ⟨hp, hS, ?_, ?_⟩
  · have := hz.2.2.1
    rw [bornM_2 hpos]
    push_cast
    omega
  · have := hz.2.2.2
    rw [bornM_3 hpos]
    push_cast
    omega
end ZT
