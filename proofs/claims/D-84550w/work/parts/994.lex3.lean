/-! the lexers side by side: one lexeme, then all -/
set_option maxRecDepth 100000
set_option maxHeartbeats 4000000
section LX
variable {d : Nat} {n k : Int} {σx σm : mM}
/-! ### branches of MarkHouse -/
theorem x48_blank {Q : mA} {Z : mM → Prop} (h0 : 0 ≤ k) (hkn : k < σx 162 7) (hn : σx 162 7 ≤ 4000) (hc : σx 169 k = 32 ∨ σx 169 k = 10) (h : xL_cut_48 d (k + 1) σx Q Z) : xL_cut_48 d k σx Q Z := by
  have h78 : xL_cut_78 d k σx Q Z := xL_cut_78_r (fun _ => ⟨by unfold ok32; omega, fun q => by omega, fun _ => h⟩)
  exact xL_cut_48_r (fun _ => ⟨fun q => by omega, fun _ => ⟨⟨h0, by omega⟩, fun _ => h78, fun q => ⟨⟨h0, by omega⟩, fun _ => h78, fun q2 => absurd hc (by omega)⟩⟩⟩)
theorem x48_one {Q : mA} {Z : mM → Prop} {e : Int} {s : mM} (h0 : 0 ≤ k) (hkn : k < σx 162 7) (hn : σx 162 7 ≤ 4000) (hc : ¬ (σx 169 k = 32 ∨ σx 169 k = 10)) (ho : ∀ Q : mA, Q e s → xL_one d k σx Q) (he : 0 ≤ e) (h : xL_cut_48 d e s Q Z) : xL_cut_48 d k σx Q Z :=
  xL_cut_48_r (fun _ => ⟨fun q => by omega, fun _ => ⟨⟨h0, by omega⟩, fun q => absurd (Or.inl q) hc, fun _ => ⟨⟨h0, by omega⟩, fun q => absurd (Or.inr q) hc, fun _ => ho _ ⟨fun q => by omega, fun _ => h⟩⟩⟩⟩)
theorem x48_bad {Q : mA} {Z : mM → Prop} {s : mM} (h0 : 0 ≤ k) (hkn : k < σx 162 7) (hn : σx 162 7 ≤ 4000) (hc : ¬ (σx 169 k = 32 ∨ σx 169 k = 10)) (ho : ∀ Q : mA, Q (-1) s → xL_one d k σx Q) (h2 : 1 ≤ s 0 2) (h3 : 6 ≤ s 0 3) (h : Z (xfl s 1 k)) : xL_cut_48 d k σx Q Z :=
  xL_cut_48_r (fun _ => ⟨fun q => by omega, fun _ => ⟨⟨h0, by omega⟩, fun q => absurd (Or.inl q) hc, fun _ => ⟨⟨h0, by omega⟩, fun q => absurd (Or.inr q) hc, fun _ => ho _ ⟨fun _ => xE_fail_c h2 h3 h, fun q => absurd rfl q⟩⟩⟩⟩)
theorem x1_L {Q : mA} (h0 : 0 ≤ k) (h1 : k < 4000) (hc : isL (σx 169 k)) (h : xL_name0 d k σx Q) : xL_one d k σx Q :=
  xL_one_r (fun _ => ⟨⟨h0, h1⟩, fun v hv => by rw [hv]; exact xL_isLetter_c ⟨fun q => absurd hc (bI_z.mp q), fun _ => h⟩⟩)
theorem x1_D {Q : mA} (h0 : 0 ≤ k) (h1 : k < 4000) (hl : ¬ isL (σx 169 k)) (hc : isD (σx 169 k)) (h : xL_number d k σx Q) : xL_one d k σx Q :=
  xL_one_r (fun _ => ⟨⟨h0, h1⟩, fun v hv => by rw [hv]; exact xL_isLetter_c ⟨fun _ => xL_isDigit_c ⟨fun q => absurd hc (bI_z.mp q), fun _ => h⟩, fun q => absurd (bI_z.mpr hl) q⟩⟩)
theorem x1_T {Q : mA} (h0 : 0 ≤ k) (h1 : k < 4000) (hl : ¬ isL (σx 169 k)) (hd : ¬ isD (σx 169 k)) (hc : σx 169 k = 39) (h : xL_text d k σx Q) : xL_one d k σx Q :=
  xL_one_r (fun _ => ⟨⟨h0, h1⟩, fun v hv => by rw [hv]; exact xL_isLetter_c ⟨fun _ => xL_isDigit_c ⟨fun _ => ⟨fun _ => h, fun q => absurd hc q⟩, fun q => absurd (bI_z.mpr hd) q⟩, fun q => absurd (bI_z.mpr hl) q⟩⟩)
theorem x1_S {Q : mA} (hS : SS σx) (h0 : 0 ≤ k) (h1 : k < 4000) (hl : ¬ isL (σx 169 k)) (hd : ¬ isD (σx 169 k)) (hc : ¬ σx 169 k = 39) (h33 : 33 ≤ σx 169 k) (h127 : σx 169 k ≤ 127) (hs : sgn (σx 169 k)) (hj : 0 ≤ σx 162 8) (hj2 : σx 162 8 < 4001) (h : Q (k + 1) (xlx (ms σx 166 (σx 162 8) (σx 169 k)) 4 k)) : xL_one d k σx Q := by
  refine xL_one_r (fun _ => ⟨⟨h0, h1⟩, fun v hv => ?_⟩)
  rw [hv]
  obtain ⟨r, hr, hk⟩ := idx_c (d := d) hS h33 h127
  refine xL_isLetter_c ⟨fun _ => xL_isDigit_c ⟨fun _ => ⟨fun q => absurd q hc, fun _ => ⟨fun q => by omega, fun _ => ⟨by unfold ok16; omega, hk _ ⟨fun _ => ⟨⟨hj, hj2⟩, xL_add_c ?_ ?_ ⟨by unfold ok32; omega, h⟩⟩, fun q => ?_⟩⟩⟩⟩, fun q => absurd (bI_z.mpr hd) q⟩, fun q => absurd (bI_z.mpr hl) q⟩
  · rw [msn (by decide)]; exact hj
  · rw [msn (by decide)]; exact hj2
  · exact absurd (hr.mpr hs) (by omega)
theorem x1_F {Q : mA} (hS : SS σx) (h0 : 0 ≤ k) (h1 : k < 4000) (hl : ¬ isL (σx 169 k)) (hd : ¬ isD (σx 169 k)) (hc : ¬ σx 169 k = 39) (h127 : σx 169 k ≤ 127) (hs : ¬ (33 ≤ σx 169 k ∧ sgn (σx 169 k))) (h : Q (-1) σx) : xL_one d k σx Q := by
  refine xL_one_r (fun _ => ⟨⟨h0, h1⟩, fun v hv => ?_⟩)
  rw [hv]
  refine xL_isLetter_c ⟨fun _ => xL_isDigit_c ⟨fun _ => ⟨fun q => absurd q hc, fun _ => ⟨fun q => h, fun q33 => ?_⟩⟩, fun q => absurd (bI_z.mpr hd) q⟩, fun q => absurd (bI_z.mpr hl) q⟩
  obtain ⟨r, hr, hk⟩ := idx_c (d := d) hS q33 h127
  exact ⟨by unfold ok16; omega, hk _ ⟨fun q => absurd ⟨q33, hr.mp q⟩ hs, fun _ => h⟩⟩
/-! ### branches of the model -/
theorem m7_blank {Q : mA} (h0 : 0 ≤ k) (hkn : k < n) (hn : n ≤ 4000) (hw : σm 279 13 = 0) (hc : σm 280 k = 32 ∨ σm 280 k = 10) (h : m_cut_7 d n (k + 1) σm Q) : m_cut_7 d n k σm Q := by
  refine m_cut_7_r (fun _ => ⟨fun q => by omega, fun _ => ⟨fun _ => ⟨⟨h0, by omega⟩, fun v hv => ?_⟩, fun q => absurd hw q⟩⟩)
  rw [hv]
  exact ⟨fun _ => ⟨by unfold ok32; omega, h⟩, fun q => ⟨fun _ => ⟨by unfold ok32; omega, h⟩, fun q2 => absurd hc (by omega)⟩⟩
theorem m7_L {Q : mA} (h0 : 0 ≤ k) (hkn : k < n) (hn : n ≤ 4000) (hw : σm 279 13 = 0) (hc : isL (σm 280 k)) (h : m_cut_57 d n k k 0 σm Q) : m_cut_7 d n k σm Q := by
  refine m_cut_7_r (fun _ => ⟨fun q => by omega, fun _ => ⟨fun _ => ⟨⟨h0, by omega⟩, fun v hv => ?_⟩, fun q => absurd hw q⟩⟩)
  rw [hv]
  exact ⟨fun q => by omega, fun _ => ⟨fun q => by omega, fun _ => m_isLetter_c ⟨fun q => absurd hc (bI_z.mp q), fun _ => h⟩⟩⟩
theorem m7_D {Q : mA} (h0 : 0 ≤ k) (hkn : k < n) (hn : n ≤ 4000) (hw : σm 279 13 = 0) (hl : ¬ isL (σm 280 k)) (hc : isD (σm 280 k)) (h : m_cut_184 d n k k 0 σm Q) : m_cut_7 d n k σm Q := by
  refine m_cut_7_r (fun _ => ⟨fun q => by omega, fun _ => ⟨fun _ => ⟨⟨h0, by omega⟩, fun v hv => ?_⟩, fun q => absurd hw q⟩⟩)
  rw [hv]
  exact ⟨fun q => by omega, fun _ => ⟨fun q => by omega, fun _ => m_isLetter_c ⟨fun _ => m_isDigit_c ⟨fun q => absurd hc (bI_z.mp q), fun _ => h⟩, fun q => absurd (bI_z.mpr hl) q⟩⟩⟩
theorem m7_T {Q : mA} (h0 : 0 ≤ k) (hkn : k < n) (hn : n ≤ 4000) (hw : σm 279 13 = 0) (hc : σm 280 k = 39) (h : m_cut_281 d n (k + 1) k 0 σm Q) : m_cut_7 d n k σm Q := by
  refine m_cut_7_r (fun _ => ⟨fun q => by omega, fun _ => ⟨fun _ => ⟨⟨h0, by omega⟩, fun v hv => ?_⟩, fun q => absurd hw q⟩⟩)
  rw [hv]
  exact ⟨fun q => by omega, fun _ => ⟨fun q => by omega, fun _ => m_isLetter_c ⟨fun _ => m_isDigit_c ⟨fun _ => ⟨fun _ => ⟨by unfold ok32; omega, h⟩, fun q => absurd hc q⟩, fun q => absurd (bI_z.mpr (by omega)) q⟩, fun q => absurd (bI_z.mpr (by omega)) q⟩⟩⟩
theorem m7_S {Q : mA} (h0 : 0 ≤ k) (hkn : k < n) (hn : n ≤ 4000) (hw : σm 279 13 = 0) (hc : sgn (σm 280 k)) (hj : 0 ≤ σm 279 7) (hj2 : σm 279 7 < 4001) (h : m_cut_7 d n (k + 1) (mlx σm 3 k (σm 280 k)) Q) : m_cut_7 d n k σm Q := by
  refine m_cut_7_r (fun _ => ⟨fun q => by omega, fun _ => ⟨fun _ => ⟨⟨h0, by omega⟩, fun v hv => ?_⟩, fun q => absurd hw q⟩⟩)
  rw [hv]
  exact ⟨fun q => by omega, fun _ => ⟨fun q => by omega, fun _ => m_isLetter_c ⟨fun _ => m_isDigit_c ⟨fun _ => ⟨fun q => by omega, fun _ => m_isSign_c ⟨fun q => absurd hc (bI_z.mp q), fun _ => m_lexeme_c hj hj2 ⟨by unfold ok32; omega, h⟩⟩⟩, fun q => absurd (bI_z.mpr (by omega)) q⟩, fun q => absurd (bI_z.mpr (by omega)) q⟩⟩⟩
theorem m7_F {Q : mA} (h0 : 0 ≤ k) (hkn : k < n) (hn : n ≤ 4000) (hw : σm 279 13 = 0) (hb : ¬ (σm 280 k = 32 ∨ σm 280 k = 10)) (hl : ¬ isL (σm 280 k)) (hd : ¬ isD (σm 280 k)) (ht : ¬ σm 280 k = 39) (hc : ¬ sgn (σm 280 k)) (hj : 0 ≤ σm 279 7) (hj2 : σm 279 7 < 4001) (h : Q 0 (mlx (mfl σm 1 k) 5 n 0)) : m_cut_7 d n k σm Q := by
  refine m_cut_7_r (fun _ => ⟨fun q => by omega, fun _ => ⟨fun _ => ⟨⟨h0, by omega⟩, fun v hv => ?_⟩, fun q => absurd hw q⟩⟩)
  rw [hv]
  have v := @mfl_v σm 1 k
  have e7 : mfl σm 1 k 279 7 = σm 279 7 := v.2.2.2.2 7 (by decide)
  exact ⟨fun q => absurd (Or.inl q) hb, fun _ => ⟨fun q => absurd (Or.inr q) hb, fun _ => m_isLetter_c ⟨fun _ => m_isDigit_c ⟨fun _ => ⟨fun q => absurd q ht, fun _ => m_isSign_c ⟨fun _ => m_fault0_c hw (m_cut_w v.1 (by rw [e7]; exact hj) (by rw [e7]; exact hj2) h), fun q => absurd (bI_z.mpr hc) q⟩⟩, fun q => absurd (bI_z.mpr hd) q⟩, fun q => absurd (bI_z.mpr hl) q⟩⟩⟩
end LX
theorem lexA_app {σ2 σm : mM} {kd fm s v : Int} (e8 : σ2 162 8 = σm 279 7) (hc : (s = 0 ∧ kd = 1 ∧ nmR (σ2 168 (σm 279 7)) v ∧ v ≠ 0) ∨ (s = 1 ∧ kd = 2 ∧ σ2 166 (σm 279 7) = v ∧ 0 ≤ v ∧ v ≤ 999999999) ∨ (s = 2 ∧ kd = 3 ∧ nmR (σ2 168 (σm 279 7)) v) ∨ (s = 3 ∧ kd = 4 ∧ σ2 166 (σm 279 7) = v) ∨ (s = 4 ∧ kd = 5 ∧ σ2 166 (σm 279 7) = v ∧ 0 ≤ v ∧ v ≤ 30)) : lexA (σm 279 7) (xlx σ2 kd fm) (mlx σm s fm v) := by
  obtain ⟨u1, u2, u3, u4⟩ := @xlx_v σ2 kd fm
  obtain ⟨w1, w2, w3⟩ := @mlx_v σm s fm v
  rw [e8] at u1 u2
  unfold lexA
  rw [u1, u2, u3, u4, w1, w2, w3]
  exact ⟨rfl, hc⟩
section LY
variable {d : Nat} {n : Int} {σx1 σm1 : mM}
theorem lex_one (hn : n ≤ 4000) (htx : txR n σx1 σm1) (hS : SS σx1) (hX : SX σx1) (hSm : SS σm1) (hM : SM σm1) (hw0 : σm1 279 13 = 0) (hb2 : 1 ≤ σx1 0 2) (hb3 : 6 ≤ σx1 0 3) {k : Int} {σx σm : mM} (h : LI n σx1 σm1 k σx σm) (hk : 0 ≤ k) (hkn : k < n)
    (ih : ∀ k' σx' σm', k < k' → LI n σx1 σm1 k' σx' σm' → Par (fun Q Z => xL_cut_48 d k' σx' Q Z) (fun Q => m_cut_7 d n k' σm' Q) (LN n σx1 σm1) (LF σx1 σm1)) :
    Par (fun Q Z => xL_cut_48 d k σx Q Z) (fun Q => m_cut_7 d n k σm Q) (LN n σx1 σm1) (LF σx1 σm1) := by
  obtain ⟨a1, a2, a3, a4, a5, a6, a7, a8, a9⟩ := id h
  have e169 : σx 169 = σx1 169 := a1.1 169 (by decide) (by decide)
  have e164 : σx 164 = σx1 164 := a1.1 164 (by decide) (by decide)
  have e0 : σx 0 = σx1 0 := a1.1 0 (by decide) (by decide)
  have e280 : σm 280 = σm1 280 := a2.1 280 (by decide) (by decide)
  have e282 : σm 282 = σm1 282 := a2.1 282 (by decide) (by decide)
  have hw : σm 279 13 = 0 := by rw [a2.2 13 (by decide)]; exact hw0
  have hSx : SS σx := SS_fr a1 (by decide) hS
  have hSm' : SS σm := SS_fr a2 (by decide) hSm
  have hM' : SM σm := fun w hw => by rw [e282]; exact hM w hw
  have htx' : ∀ i, 0 ≤ i → i < n → (0 ≤ σm 280 i ∧ σm 280 i ≤ 255) ∧ σx 169 i = w8 (σm 280 i) := by rw [e169, e280]; exact htx
  have cls : ∀ i, 0 ≤ i → i < n → (isL (σx 169 i) ↔ isL (σm 280 i)) ∧ (isD (σx 169 i) ↔ isD (σm 280 i)) ∧ (isS (σx 169 i) ↔ isS (σm 280 i)) ∧ (sgn (σx 169 i) ↔ sgn (σm 280 i)) ∧ (σm 280 i ≤ 127 → σx 169 i = σm 280 i) ∧ (σx 169 i ≤ 127) ∧ (∀ c, 0 ≤ c → c ≤ 127 → (σx 169 i = c ↔ σm 280 i = c)) := by
    intro i i0 i1
    obtain ⟨⟨b0, b1⟩, b2⟩ := htx' i i0 i1
    have b3 : σx 169 i = if σm 280 i ≤ 127 then σm 280 i else σm 280 i - 256 := by rw [b2]; unfold w8; split <;> omega
    refine ⟨?_, ?_, ?_, ?_, ?_, ?_, ?_⟩ <;> rw [b3] <;> split <;> first | omega | (intros; omega) | skip
  obtain ⟨c1, c2, c3, c4, c5, c6, c7⟩ := cls k hk hkn
  obtain ⟨⟨b0, b1⟩, b2⟩ := htx' k hk hkn
  have hkx : k < σx 162 7 := by omega
  have hnx : σx 162 7 ≤ 4000 := by omega
  have hjx : 0 ≤ σx 162 8 ∧ σx 162 8 < 4001 := by omega
  by_cases hB : σm 280 k = 32 ∨ σm 280 k = 10
  · have hBx : σx 169 k = 32 ∨ σx 169 k = 10 := by
      rcases hB with q | q
      · exact Or.inl ((c7 32 (by decide) (by decide)).mpr q)
      · exact Or.inr ((c7 10 (by decide) (by decide)).mpr q)
    exact Par_x (fun Q Z q => x48_blank hk hkx hnx hBx q) (fun Q q => m7_blank hk hkn hn hw hB q) (ih (k + 1) σx σm (by omega) ⟨a1, a2, a3, a4, a5, a6, by omega, by omega, a9⟩)
  have hBx : ¬ (σx 169 k = 32 ∨ σx 169 k = 10) := by
    rw [c7 32 (by decide) (by decide), c7 10 (by decide) (by decide)]
    exact hB
  by_cases hL : isL (σm 280 k)
  · obtain ⟨e, f1, f2, f3, f4⟩ := ex_end (fun i => isLD (σm 280 i)) (Int.le_of_lt hkn)
    have hke : k < e := by
      rcases Int.lt_or_eq_of_le f1 with q | q
      · exact q
      · rw [← q] at f4
        rcases f4 with z | z
        · omega
        · exact absurd (Or.inl hL) z
    have g3 : ∀ i, k ≤ i → i < e → isLD (σx 169 i) := fun i x y => by
      have z := cls i (by omega) (by omega)
      rcases f3 i x y with w | w
      · exact Or.inl (z.1.mpr w)
      · exact Or.inr (z.2.1.mpr w)
    have g4 : e = σx 162 7 ∨ ¬ isLD (σx 169 e) := by
      rcases f4 with q | q
      · exact Or.inl (by omega)
      · by_cases z : e < n
        · refine Or.inr (fun w => q ?_)
          have y := cls e (by omega) z
          rcases w with w | w
          · exact Or.inl (y.1.mp w)
          · exact Or.inr (y.2.1.mp w)
        · exact Or.inl (by omega)
    obtain ⟨p, hp⟩ : ∃ p : Nat, e = k + p := ⟨(e - k).toNat, by omega⟩
    have ep : (e - k).toNat = p := by omega
    have xs := x_scan (d := d) hk hnx f1 (by omega) g3 g4
    have msc := m_scan (d := d) hk hn f1 f2 f3 f4
    rw [ep] at xs msc
    have hbl : bl (σx 169) k p = bl (σm 280) k p := bl_congr p (fun i x y => (cls i (by omega) (by omega)).2.2.2.2.1 (by have := f3 i x (by omega); omega))
    have hok : okB (bl (σm 280) k p) := bl_ok p (fun i x y => by have := f3 i x (by omega); omega)
    by_cases h8 : e - k ≤ 8
    · have hp8 : p ≤ 8 := by omega
      have exv : xac (σx 169) k p = pkR (bl (σm 280) k p) 0 * pw8 (8 - p) := by unfold xac; rw [Nat.min_eq_left hp8, hbl]
      have emv : mac (σm 280) k p = pkR (bl (σm 280) k p) 0 := mac_is p hp8 hok
      rw [exv] at xs
      rw [emv] at msc
      have hnm : nmR (pkR (bl (σm 280) k p) 0 * pw8 (8 - p)) (pkR (bl (σm 280) k p) 0) := nmR_of hok hp8
      have hpos : 0 < pkR (bl (σm 280) k p) 0 := (pkR_pos _ 0 hok (Int.le_refl _)).2 (fun z => by
        have := congrArg List.length z
        rw [bl_len] at this
        simp at this
        omega)
      generalize pkR (bl (σm 280) k p) 0 * pw8 (8 - p) = vx at *
      generalize pkR (bl (σm 280) k p) 0 = vm at *
      obtain ⟨r1, hr1, hk1⟩ := x_word (d := d) (a := k) (e := e) (v := vx) (σ := σx)
      obtain ⟨r2, hr2, hk2⟩ := m_wordOf_c (d := d) (v := vm) hSm' hM'
      have her : r1 = r2 := by
        refine isFst_u (isFst_c (fun i i0 i1 => ?_) hr1) hr2
        obtain ⟨w, rfl⟩ := Int.eq_ofNat_of_zero_le i0
        have hwl : w < 31 := by omega
        have ex1 : σx 164 (w : Int) = wnm w * pw8 (8 - (stl w).length) := by rw [e164]; exact hX.2.1 w hwl
        rw [ex1]
        exact nmR_iff (wnm_ok hwl) hnm
      subst her
      have xgo : ∀ (kd w : Int), (r1 = -1 → kd = 1 ∧ w = 31) → (¬ r1 = -1 → kd = 5 ∧ w = r1) → ∀ Q : mA, Q e (xlx (ms (ms σx 168 (σx 162 8) vx) 166 (σx 162 8) w) kd k) → xL_one d k σx Q := by
        intro kd w q1 q2 Q hQ
        refine x1_L hk (by omega) (c1.mpr hL) (xs.1 h8 Q (hk1 Q ?_))
        have hb := isFst_b hr1
        refine xL_name0_97_r (fun _ => ⟨hjx, hjx, fun q => ?_, fun q => ?_⟩)
        · have : r1 = -1 := by
            by_cases z : r1 = -1
            · exact z
            · rw [if_neg z] at q; omega
          obtain ⟨y1, y2⟩ := q1 this
          rw [if_pos this]
          rw [y1, y2] at hQ
          exact xL_add_c (by rw [msn (by decide), msn (by decide)]; exact hjx.1) (by rw [msn (by decide), msn (by decide)]; exact hjx.2) hQ
        · have : ¬ r1 = -1 := fun z => by rw [if_pos z] at q; omega
          obtain ⟨y1, y2⟩ := q2 this
          rw [if_neg this]
          rw [y1, y2] at hQ
          exact xL_add_c (by rw [msn (by decide), msn (by decide)]; exact hjx.1) (by rw [msn (by decide), msn (by decide)]; exact hjx.2) hQ
      have mgo : ∀ Q : mA, m_cut_142 d n e k vm r1 σm Q → m_cut_7 d n k σm Q := by
        intro Q hQ
        refine m7_L hk hkn hn hw hL (msc Q (m_cut_107_r (fun _ => ⟨by unfold ok32; omega, fun _ => ⟨by unfold ok32; omega, fun _ => hk2 _ hQ, fun q => by omega⟩, fun q => by omega⟩)))
      have hfr2 : ∀ w, fr [162, 165, 166, 167, 168] [] σx (ms (ms σx 168 (σx 162 8) vx) 166 (σx 162 8) w) := fun w => fr_w (fr_ms (by decide) (by decide)) (by decide) (by decide)
      have h162 : ∀ w, (ms (ms σx 168 (σx 162 8) vx) 166 (σx 162 8) w) 162 = σx 162 := fun w => by rw [msn (by decide), msn (by decide)]
      have hoth : ∀ w i, i ≠ σx 162 8 → ∀ a ∈ [165, 166, 167, 168], (ms (ms σx 168 (σx 162 8) vx) 166 (σx 162 8) w) a i = σx a i := by
        intro w i hi a ha
        rcases (by simpa using ha : a = 165 ∨ a = 166 ∨ a = 167 ∨ a = 168) with rfl | rfl | rfl | rfl
        · rw [msn (by decide), msn (by decide)]
        · rw [msi hi, msn (by decide)]
        · rw [msn (by decide), msn (by decide)]
        · rw [msn (by decide), msi hi]
      have v168 : ∀ w, (ms (ms σx 168 (σx 162 8) vx) 166 (σx 162 8) w) 168 (σm 279 7) = vx := fun w => by rw [msn (by decide), ← a5, mse]
      have v166 : ∀ w, (ms (ms σx 168 (σx 162 8) vx) 166 (σx 162 8) w) 166 (σm 279 7) = w := fun w => by rw [← a5, mse]
      have e8 : ∀ w, (ms (ms σx 168 (σx 162 8) vx) 166 (σx 162 8) w) 162 8 = σm 279 7 := fun w => by rw [h162]; exact a5
      by_cases hr : r1 = -1
      · have hli := LI_app (k' := e) (kd := 1) (fm := k) (s := 0) (f := k) (v := vm) h hke f2 (hfr2 31) (h162 31) (hoth 31) (lexA_app (e8 31) (Or.inl ⟨rfl, rfl, by rw [v168]; exact hnm, by omega⟩))
        refine Par_x (fun Q Z q => x48_one hk hkx hnx hBx (xgo 1 31 (fun _ => ⟨rfl, rfl⟩) (fun z => absurd hr z)) (by omega) q) (fun Q q => mgo Q (m_cut_142_r (fun _ => ⟨fun _ => m_lexeme_c (by omega) (by omega) q, fun z => by omega⟩))) (ih e _ _ hke hli)
      · have hb := isFst_b hr1
        have hli := LI_app (k' := e) (kd := 5) (fm := k) (s := 4) (f := k) (v := r1) h hke f2 (hfr2 r1) (h162 r1) (hoth r1) (lexA_app (e8 r1) (Or.inr (Or.inr (Or.inr (Or.inr ⟨rfl, rfl, v166 r1, by omega, by omega⟩)))))
        refine Par_x (fun Q Z q => x48_one hk hkx hnx hBx (xgo 5 r1 (fun z => absurd z hr) (fun _ => ⟨rfl, rfl⟩)) (by omega) q) (fun Q q => mgo Q (m_cut_142_r (fun _ => ⟨fun z => by omega, fun z => m_lexeme_c (by omega) (by omega) q⟩))) (ih e _ _ hke hli)
    · have v := @mfl_v σm 1 k
      have e7 : mfl σm 1 k 279 7 = σm 279 7 := v.2.2.2.2 7 (by decide)
      have e13 : mlx (mfl σm 1 k) 0 k (mac (σm 280) k p) 279 13 = 1 := by rw [mlx_fr.2 13 (by decide)]; exact v.1
      refine Par_f (s := xfl σx 1 k) (r' := 0) (s' := mlx (mlx (mfl σm 1 k) 0 k (mac (σm 280) k p)) 5 n 0) (fun Q Z q => x48_bad hk hkx hnx hBx (fun Q q => x1_L hk (by omega) (c1.mpr hL) (xs.2 (by omega) Q q)) (by rw [e0]; exact hb2) (by rw [e0]; exact hb3) q) (fun Q q => ?_) (LF_of h fr_rf (fr_t mlx_fr mlx_fr))
      refine m7_L hk hkn hn hw hL (msc Q (m_cut_107_r (fun _ => ⟨by unfold ok32; omega, fun z => by omega, fun _ => m_fault0_c hw ⟨by unfold ok32; omega, fun z => by omega, fun _ => ?_⟩⟩)))
      refine m_cut_142_r (fun _ => ⟨fun _ => m_lexeme_c (by rw [e7]; omega) (by rw [e7]; omega) (m_cut_w e13 (by rw [mlx_j, e7]; omega) (by rw [mlx_j, e7]; omega) q), fun z => by omega⟩)
  have hLx : ¬ isL (σx 169 k) := fun z => hL (c1.mp z)
  by_cases hD : isD (σm 280 k)
  · obtain ⟨e, f1, f2, f3, f4⟩ := ex_end (fun i => isD (σm 280 i)) (Int.le_of_lt hkn)
    have hke : k < e := by
      rcases Int.lt_or_eq_of_le f1 with q | q
      · exact q
      · rw [← q] at f4
        rcases f4 with z | z
        · omega
        · exact absurd hD z
    have g3 : ∀ i, k ≤ i → i < e → isD (σx 169 i) := fun i x y => (cls i (by omega) (by omega)).2.1.mpr (f3 i x y)
    have g4 : e = σx 162 7 ∨ ¬ isD (σx 169 e) := by
      rcases f4 with q | q
      · exact Or.inl (by omega)
      · by_cases z : e < n
        · exact Or.inr (fun w => q ((cls e (by omega) z).2.1.mp w))
        · exact Or.inl (by omega)
    obtain ⟨p, hp⟩ : ∃ p : Nat, e = k + p := ⟨(e - k).toNat, by omega⟩
    have ep : (e - k).toNat = p := by omega
    have xs := x_num (d := d) hk hnx f1 (by omega) g3 g4 hjx.1 hjx.2
    have msc := m_num (d := d) hk hn f1 f2 f3 f4
    rw [ep] at xs msc
    have hda : dac (σx 169) k p = dac (σm 280) k p := dac_congr p (fun i x y => (cls i (by omega) (by omega)).2.2.2.2.1 (by have := f3 i x (by omega); omega))
    have hbd := dac_b (f := σm 280) (a := k) p (fun i x y => f3 i x (by omega))
    have hp10 := p10_le (min p 9) (by omega)
    rw [hda] at xs
    generalize dac (σm 280) k p = v at *
    by_cases h9 : e - k ≤ 9
    · have hli := LI_app (k' := e) (kd := 2) (fm := k) (s := 1) (f := k) (v := v) (σ2 := ms σx 166 (σx 162 8) v) h hke f2 (fr_ms (by decide) (by decide)) (msn (by decide)) (by
        intro i hi a ha
        rcases (by simpa using ha : a = 165 ∨ a = 166 ∨ a = 167 ∨ a = 168) with rfl | rfl | rfl | rfl
        · rw [msn (by decide)]
        · rw [msi hi]
        · rw [msn (by decide)]
        · rw [msn (by decide)]) (lexA_app (by rw [msn (by decide)]; exact a5) (Or.inr (Or.inl ⟨rfl, rfl, by rw [← a5, mse], by omega, by omega⟩)))
      exact Par_x (fun Q Z q => x48_one hk hkx hnx hBx (fun Q q => x1_D hk (by omega) hLx (c2.mpr hD) (xs.1 h9 Q q)) (by omega) q) (fun Q q => m7_D hk hkn hn hw hL hD (msc Q (m_cut_241_r (fun _ => ⟨by unfold ok32; omega, fun _ => m_lexeme_c (by omega) (by omega) q, fun z => by omega⟩)))) (ih e _ _ hke hli)
    · have w := @mfl_v σm 1 k
      have e7 : mfl σm 1 k 279 7 = σm 279 7 := w.2.2.2.2 7 (by decide)
      have e13 : mlx (mfl σm 1 k) 1 k v 279 13 = 1 := by rw [mlx_fr.2 13 (by decide)]; exact w.1
      refine Par_f (s := xfl σx 1 k) (r' := 0) (s' := mlx (mlx (mfl σm 1 k) 1 k v) 5 n 0) (fun Q Z q => x48_bad hk hkx hnx hBx (fun Q q => x1_D hk (by omega) hLx (c2.mpr hD) (xs.2 (by omega) Q q)) (by rw [e0]; exact hb2) (by rw [e0]; exact hb3) q) (fun Q q => ?_) (LF_of h fr_rf (fr_t mlx_fr mlx_fr))
      exact m7_D hk hkn hn hw hL hD (msc Q (m_cut_241_r (fun _ => ⟨by unfold ok32; omega, fun z => by omega, fun _ => m_fault0_c hw (m_lexeme_c (by rw [e7]; omega) (by rw [e7]; omega) (m_cut_w e13 (by rw [mlx_j, e7]; omega) (by rw [mlx_j, e7]; omega) q))⟩)))
  have hDx : ¬ isD (σx 169 k) := fun z => hD (c2.mp z)
  by_cases hT : σm 280 k = 39
  · have hTx : σx 169 k = 39 := (c7 39 (by decide) (by decide)).mpr hT
    obtain ⟨e, f1, f2, f3, f4⟩ := ex_end (fun i => isS (σm 280 i) ∧ i - k ≤ 8) (show k + 1 ≤ n by omega)
    have g3 : ∀ i, k + 1 ≤ i → i < e → isS (σx 169 i) ∧ i - k ≤ 8 := fun i x y => ⟨(cls i (by omega) (by omega)).2.2.1.mpr (f3 i x y).1, (f3 i x y).2⟩
    have g4 : e = σx 162 7 ∨ ¬ (isS (σx 169 e) ∧ e - k ≤ 8) := by
      rcases f4 with q | q
      · exact Or.inl (by omega)
      · by_cases z : e < n
        · exact Or.inr (fun w => q ⟨(cls e (by omega) z).2.2.1.mp w.1, w.2⟩)
        · exact Or.inl (by omega)
    obtain ⟨p, hp⟩ : ∃ p : Nat, e = k + 1 + p := ⟨(e - (k + 1)).toNat, by omega⟩
    have ep : (e - (k + 1)).toNat = p := by omega
    have hp8 : p ≤ 8 := by
      rcases Nat.lt_or_ge 8 p with q | q
      · have := (f3 (k + 9) (by omega) (by omega)).2
        omega
      · exact q
    have xs := x_txt (d := d) hk hnx hkx f1 (by omega) g3 g4
    have msc := m_txt (d := d) hk hn hkn f1 f2 f3 f4
    rw [ep] at xs msc
    have hbl : bl (σx 169) (k + 1) p = bl (σm 280) (k + 1) p := bl_congr p (fun i x y => (cls i (by omega) (by omega)).2.2.2.2.1 (by have := (f3 i x (by omega)).1; omega))
    have hok : okB (bl (σm 280) (k + 1) p) := bl_ok p (fun i x y => by have := (f3 i x (by omega)).1; omega)
    have exv : xac (σx 169) (k + 1) p = pkR (bl (σm 280) (k + 1) p) 0 * pw8 (8 - p) := by unfold xac; rw [Nat.min_eq_left hp8, hbl]
    have emv : mac (σm 280) (k + 1) p = pkR (bl (σm 280) (k + 1) p) 0 := mac_is p hp8 hok
    rw [exv] at xs
    rw [emv] at msc
    have hnm : nmR (pkR (bl (σm 280) (k + 1) p) 0 * pw8 (8 - p)) (pkR (bl (σm 280) (k + 1) p) 0) := nmR_of hok hp8
    generalize pkR (bl (σm 280) (k + 1) p) 0 * pw8 (8 - p) = vx at *
    generalize pkR (bl (σm 280) (k + 1) p) 0 = vm at *
    by_cases hE : e < n ∧ σm 280 e = 39
    · have hEx : hx σx e = 39 := by rw [hx_in (by omega)]; exact ((cls e (by omega) hE.1).2.2.2.2.2.2 39 (by decide) (by decide)).mpr hE.2
      have hli := LI_app (k' := e + 1) (kd := 3) (fm := k) (s := 2) (f := k) (v := vm) (σ2 := ms σx 168 (σx 162 8) vx) h (by omega) (by omega) (fr_ms (by decide) (by decide)) (msn (by decide)) (by
        intro i hi a ha
        rcases (by simpa using ha : a = 165 ∨ a = 166 ∨ a = 167 ∨ a = 168) with rfl | rfl | rfl | rfl
        · rw [msn (by decide)]
        · rw [msn (by decide)]
        · rw [msn (by decide)]
        · rw [msi hi]) (lexA_app (by rw [msn (by decide)]; exact a5) (Or.inr (Or.inr (Or.inl ⟨rfl, rfl, by rw [← a5, mse]; exact hnm⟩))))
      refine Par_x (fun Q Z q => x48_one hk hkx hnx hBx (fun Q q => x1_T hk (by omega) hLx hDx hTx (xs Q (xL_text_52_r (fun _ => xL_here_c (by omega) hnx ⟨fun _ => ⟨hjx, xL_add_c (by rw [msn (by decide)]; exact hjx.1) (by rw [msn (by decide)]; exact hjx.2) ⟨by unfold ok32; omega, q⟩⟩, fun z => absurd hEx z⟩)))) (by omega) q) (fun Q q => m7_T hk hkn hn hw hT (msc Q (m_cut_349_r (fun _ => ⟨fun z => by omega, fun _ => ⟨⟨by omega, by omega⟩, fun _ => ⟨by unfold ok32; omega, m_lexeme_c (by omega) (by omega) q⟩, fun z => absurd hE.2 z⟩⟩)))) (ih (e + 1) _ _ (by omega) hli)
    · have hEx : ¬ hx σx e = 39 := by
        by_cases z : e < n
        · rw [hx_in (by omega)]
          exact fun w => hE ⟨z, ((cls e (by omega) z).2.2.2.2.2.2 39 (by decide) (by decide)).mp w⟩
        · rw [hx_out (by omega)]; decide
      have w := @mfl_v σm 1 k
      have e7 : mfl σm 1 k 279 7 = σm 279 7 := w.2.2.2.2 7 (by decide)
      have e13 : mlx (mfl σm 1 k) 2 k vm 279 13 = 1 := by rw [mlx_fr.2 13 (by decide)]; exact w.1
      refine Par_f (s := xfl σx 1 k) (r' := 0) (s' := mlx (mlx (mfl σm 1 k) 2 k vm) 5 n 0) (fun Q Z q => x48_bad hk hkx hnx hBx (fun Q q => x1_T hk (by omega) hLx hDx hTx (xs Q (xL_text_52_r (fun _ => xL_here_c (by omega) hnx ⟨fun z => absurd z hEx, fun _ => q⟩)))) (by rw [e0]; exact hb2) (by rw [e0]; exact hb3) q) (fun Q q => ?_) (LF_of h fr_rf (fr_t mlx_fr mlx_fr))
      have hgo : ok32 (e + 1) ∧ m_lexeme d 2 k vm (mfl σm 1 k) (fun _ s2 => m_cut_7 d n (e + 1) s2 Q) := ⟨by unfold ok32; omega, m_lexeme_c (by rw [e7]; omega) (by rw [e7]; omega) (m_cut_w e13 (by rw [mlx_j, e7]; omega) (by rw [mlx_j, e7]; omega) q)⟩
      exact m7_T hk hkn hn hw hT (msc Q (m_cut_349_r (fun _ => ⟨fun _ => m_fault0_c hw hgo, fun z => ⟨⟨by omega, by omega⟩, fun y => absurd ⟨z, y⟩ hE, fun _ => m_fault0_c hw hgo⟩⟩)))
  have hTx : ¬ σx 169 k = 39 := fun z => hT ((c7 39 (by decide) (by decide)).mp z)
  by_cases hG : sgn (σm 280 k)
  · have e9 : σx 169 k = σm 280 k := c5 (by omega)
    have hli := LI_app (k' := k + 1) (kd := 4) (fm := k) (s := 3) (f := k) (v := σm 280 k) (σ2 := ms σx 166 (σx 162 8) (σx 169 k)) h (by omega) (by omega) (fr_ms (by decide) (by decide)) (msn (by decide)) (by
      intro i hi a ha
      rcases (by simpa using ha : a = 165 ∨ a = 166 ∨ a = 167 ∨ a = 168) with rfl | rfl | rfl | rfl
      · rw [msn (by decide)]
      · rw [msi hi]
      · rw [msn (by decide)]
      · rw [msn (by decide)]) (lexA_app (by rw [msn (by decide)]; exact a5) (Or.inr (Or.inr (Or.inr (Or.inl ⟨rfl, rfl, by rw [← a5, mse, e9]⟩)))))
    exact Par_x (fun Q Z q => x48_one hk hkx hnx hBx (fun Q q => x1_S hSx hk (by omega) hLx hDx hTx (by omega) c6 (c4.mpr hG) hjx.1 hjx.2 q) (by omega) q) (fun Q q => m7_S hk hkn hn hw hG (by omega) (by omega) q) (ih (k + 1) _ _ (by omega) hli)
  · exact Par_f (s := xfl σx 1 k) (r' := 0) (s' := mlx (mfl σm 1 k) 5 n 0) (fun Q Z q => x48_bad hk hkx hnx hBx (fun Q q => x1_F hSx hk (by omega) hLx hDx hTx c6 (fun z => hG (c4.mp z.2)) q) (by rw [e0]; exact hb2) (by rw [e0]; exact hb3) q) (fun Q q => m7_F hk hkn hn hw hB hL hD hT hG (by omega) (by omega) q) (LF_of h fr_rf mlx_fr)
theorem lex_all (hn : n ≤ 4000) (htx : txR n σx1 σm1) (hS : SS σx1) (hX : SX σx1) (hSm : SS σm1) (hM : SM σm1) (hw0 : σm1 279 13 = 0) (hb2 : 1 ≤ σx1 0 2) (hb3 : 6 ≤ σx1 0 3) : ∀ (q : Nat) (k : Int) (σx σm : mM), (n - k).toNat ≤ q → 0 ≤ k → LI n σx1 σm1 k σx σm →
    Par (fun Q Z => xL_cut_48 d k σx Q Z) (fun Q => m_cut_7 d n k σm Q) (LN n σx1 σm1) (LF σx1 σm1) := by
  intro q
  induction q with
  | zero =>
    intro k σx σm hq hk h
    obtain ⟨a1, a2, a3, a4, a5, a6, a7, a8, a9⟩ := id h
    have hkn : k = n := by omega
    have hjx : 0 ≤ σx 162 8 ∧ σx 162 8 < 4001 := by omega
    refine Par_n (r := 0) (r' := 0) (s := ms (ms σx 165 (σx 162 8) 0) 167 (σx 162 8) (σx 162 7)) (s' := mlx σm 5 n 0) (fun Q Z q => xL_cut_48_r (fun _ => ⟨fun _ => ⟨hjx, hjx, q⟩, fun z => by omega⟩)) (fun Q q => m_cut_7_r (fun _ => ⟨fun _ => m_lexeme_c (by omega) (by omega) q, fun z => by omega⟩)) ?_
    refine ⟨fr_t a1 (fr_w (fr_ms (by decide) (by decide)) (by decide) (by decide)), fr_t a2 mlx_fr, by rw [msn (by decide), msn (by decide)]; exact a4, σm 279 7, a6, by omega, fun i i0 i1 => ?_, ?_, mlx_v.1, ?_⟩
    · refine lexA_c (fun a ha => ?_) (mlx_i (by omega)) (a9 i i0 i1)
      have hi : i ≠ σx 162 8 := by omega
      rcases (by simpa using ha : a = 165 ∨ a = 166 ∨ a = 167 ∨ a = 168) with rfl | rfl | rfl | rfl
      · rw [msn (by decide), msi hi]
      · rw [msn (by decide), msn (by decide)]
      · rw [msi hi, msn (by decide)]
      · rw [msn (by decide), msn (by decide)]
    · rw [← a5, msn (by decide), mse]
    · rw [mlx_v.2.1, ← a5, mse, a3]
  | succ q ih =>
    intro k σx σm hq hk h
    by_cases hkn : k < n
    · exact lex_one hn htx hS hX hSm hM hw0 hb2 hb3 h hk hkn (fun k' σx' σm' h1 h2 => ih k' σx' σm' (by omega) (by omega) h2)
    · exact ih k σx σm (by omega) hk h
end LY
